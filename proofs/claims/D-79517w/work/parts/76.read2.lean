/-! ===== the twin: does, read ===== -/
section Rd2
theorem whyLit_n {w : Int → Int} {o : Int} (h : whyLit w o = none) : 0 ≤ tw w o 3 := by
  unfold whyLit at h
  split at h
  · cases h
  · split at h
    · cases h
    · split at h
      · cases h
      · rename_i h5
        unfold powS at h5
        split at h5 <;> omega
/-- the commands one after another: what refuses one, the row -/
noncomputable def rdF (V : Nat → Int → Int) : Nat → Int → (Int → Int) → Option (Int × Int × Int) × (Int → Int)
  | 0, _, w => (none, w)
  | f + 1, k, w => if k < V 23 0 then (match hinS w (V 19 k) (V 20 k) (V 21 k) with
    | some q => (some (k, q.1, q.2), w)
    | none => rdF V f (k + 1) (doeS w (V 19 k) (V 20 k) (V 21 k))) else (none, w)
noncomputable def rdS (V : Nat → Int → Int) : Option (Int × Int × Int) × (Int → Int) := opq 20 (fun V : Nat → Int → Int => rdF V 32 0 (V 5)) V
/-- a text that was read without a fault -/
def RD (T V : Nat → Int → Int) : Prop := (∀ k, k ≠ 17 → k < 19 → V k = T k) ∧ (0 ≤ V 23 0 ∧ V 23 0 < 32) ∧ ∀ k, 0 ≤ k → k < V 23 0 → ckP (V 19 k) (V 20 k) (V 21 k) ∧ (-1 ≤ V 19 k ∧ V 19 k ≤ 126) ∧ (0 ≤ V 20 k ∧ V 20 k ≤ 99) ∧ 0 ≤ V 21 k ∧ V 21 k ≤ 511
/-- behind a refused command -/
def rfX (V : Nat → Int → Int) (w : Int → Int) (k r d : Int) : Nat → Int → Int := upN (upN (upN (upN (upN (upN (upN V 8 (cpy (V 5) (V 8) 0 128)) 5 (cpy (cpy (V 5) (V 8) 0 128) w 0 128)) 1 (fun _ => 10)) 2 (fun _ => k)) 4 (upI (upI (upI (upI (V 4) 2 r) 3 d) 0 10) 1 k)) 0 (fun _ => 2)) 3 (fun _ => 2)
noncomputable def o_read (T : Nat → Int → Int) : Int × (Nat → Int → Int) := if (rdA (upN T 0 (fun _ => 0))).1 = false then (0, upN (rdA (upN T 0 (fun _ => 0))).2 0 (fun _ => 1)) else match rdS (rdA (upN T 0 (fun _ => 0))).2 with
  | (some q, w) => (0, rfX (rdA (upN T 0 (fun _ => 0))).2 w q.1 q.2.1 q.2.2)
  | (none, w) => ((rdA (upN T 0 (fun _ => 0))).2 23 0, remT (upN (upN (rdA (upN T 0 (fun _ => 0))).2 8 (cpy ((rdA (upN T 0 (fun _ => 0))).2 5) ((rdA (upN T 0 (fun _ => 0))).2 8) 0 128)) 5 w))
theorem doeS_ok {w : Int → Int} (hS : SH w) (hU : UT w) (hL : LT w) {c o t : Int} (hk : ckP c o t) (ht : 0 ≤ t ∧ t ≤ 511) (hh : hinS w c o t = none) : SH (doeS w c o t) ∧ UT (doeS w c o t) ∧ LT (doeS w c o t) := by
  obtain ⟨a, b, c⟩ := doe0_ok hS hU hL (fun o _ _ h => whyLit_n h) hk ht hh
  exact ⟨(stlS_ok a b).1, (stlS_ok a b).2.1, LT.stl a b c⟩
end Rd2
section Tw16
variable {Γ : yG} {A : Nat → Nat} {T : Nat → Int → Int} {G : yH}
set_option maxHeartbeats 4000000
theorem m_does (hA : mA A) (hS : SH (T 5)) (hU : UT (T 5)) (hL : LT (T 5)) {k : Int} (hk : 0 ≤ k ∧ k < 32) (hc : -1 ≤ T 19 k ∧ T 19 k ≤ 126) (ho : 0 ≤ T 20 k ∧ T 20 k ≤ 99) (ht : 0 ≤ T 21 k ∧ T 21 k ≤ 511) (hck : ckP (T 19 k) (T 20 k) (T 21 k)) (hh : hinS (T 5) (T 19 k) (T 20 k) (T 21 k) = none) : Ct_X3_does Γ 10 0 0 [.ref (A 0), .int (iI (k))] (mH A T G) (fun v G' => v = none ∧ G' = mH A (upN T 5 (doeS (T 5) (T 19 k) (T 20 k) (T 21 k))) G) noX := by
  refine y_start (lv0 := [some (.ref (A 0)), some (.int (iI (k))), none]) (nm := "does") (own := RX3) (by decide +kernel) rfl rfl (by exact Nat.le_of_ble_eq_true rfl) (by rfl) ?_
  intro Z Q E F
  have hn := hS.nt
  have hns := hS.ns
  obtain ⟨d1, d2, d3⟩ := doe0_ok hS hU hL (fun o _ _ h => whyLit_n h) hck ht hh
  have hlg := lgS_in ht
  have hck2 := hck
  unfold ckP at hck2
  have hnn : ¬ noneP (T 5) (T 19 k) (T 20 k) (T 21 k) := by
    intro q
    unfold hinS at hh
    rw [if_pos (dB_t q)] at hh
    cases hh
  have hto : T 19 k ≠ 70 → T 19 k ≠ 78 → 0 ≤ T 20 k ∧ T 20 k ≤ T 5 10 - 1 := by
    intro h1 h2
    by_cases e : 0 ≤ T 20 k ∧ T 20 k ≤ T 5 10 - 1
    · exact e
    · exact absurd ⟨h1, Or.inr ⟨h2, Or.inl e⟩⟩ hnn
  have h12 : T 19 k = 83 → 0 < T 5 12 := by
    intro e
    unfold hinS at hh
    rw [if_neg (by rw [dB_f hnn]; decide), if_neg (by omega), if_neg (by omega), if_neg (by omega), if_neg (by omega), if_pos e] at hh
    have : T 5 12 ≠ 0 := fun e => by unfold whyFitted at hh; rw [if_pos e] at hh; cases hh
    omega
  have fin217 : ∀ x : Int → Int, x = doe0 (T 5) (T 19 k) (T 20 k) (T 21 k) → Y Γ Z 0 0 Q (mH A (upN T 5 x) G) 217 [some (.ref (A 0)), some (.int (iI k)), some (.int (iI (T 20 k)))] [] := by
    intro x hx
    rw [← hx] at d1 d2
    first | refine y_ald_n E dX3_does_217 (by rfl) ?_ | refine y_aload_n E dX3_does_217 (by rfl) ?_
    refine y_callV E dX3_does_218 lk_X3_120 (m_settles hA ?_ ?_) (by rfl) (m_o hA _ _) rfl (by decide) (by omega) (by omega) rfl (Nat.le_of_ble_eq_true rfl) ?_ (fun _ _ _ h => h.elim)
    · exact d1
    · exact d2
    rintro _ _ ⟨rfl, rfl⟩
    try simp (decide := true) only [upN_s, upN_n, upN_upN, upN_id, remT_5, remT_8]
    refine y_return E F rfl dX3_does_221 (by omega) (by omega) ⟨rfl, by unfold doeS; rw [← hx]⟩
  first | refine y_ald_n E dX3_does_0 (by rfl) ?_ | refine y_aload_n E dX3_does_0 (by rfl) ?_
  refine y_get E dX3_does_1 fl_X3_41_X3 (m_o hA _ _) (by rfl) ?_
  refine y_iload_n E dX3_does_4 (by rfl) ?_
  refine y_iald E dX3_does_5 (m_r20 hA _ _) (by omega) ?_
  refine y_istore_n (j := 2) E dX3_does_6 rfl (Nat.le_of_ble_eq_true rfl) ?_
  first | refine y_ald_n E dX3_does_7 (by rfl) ?_ | refine y_aload_n E dX3_does_7 (by rfl) ?_
  refine y_get E dX3_does_8 fl_X3_38_X3 (m_o hA _ _) (by rfl) ?_
  refine y_iload_n E dX3_does_11 (by rfl) ?_
  refine y_iald E dX3_does_12 (m_r19 hA _ _) (by omega) ?_
  rcases (show T 19 k < 66 ∨ 83 < T 19 k ∨ T 19 k = 66 ∨ T 19 k = 67 ∨ T 19 k = 68 ∨ T 19 k = 69 ∨ T 19 k = 70 ∨ T 19 k = 71 ∨ T 19 k = 72 ∨ T 19 k = 73 ∨ T 19 k = 74 ∨ T 19 k = 75 ∨ T 19 k = 76 ∨ T 19 k = 77 ∨ T 19 k = 78 ∨ T 19 k = 79 ∨ T 19 k = 80 ∨ T 19 k = 81 ∨ T 19 k = 82 ∨ T 19 k = 83 by omega) with hs | hs | hs | hs | hs | hs | hs | hs | hs | hs | hs | hs | hs | hs | hs | hs | hs | hs | hs | hs
  · refine y_tsOut (tgt := 212) E dX3_does_13 (by omega) (by omega) (by decide) ?_
    first | refine y_ald_n E dX3_does_212 (by rfl) ?_ | refine y_aload_n E dX3_does_212 (by rfl) ?_
    refine y_iload_n E dX3_does_213 (by rfl) ?_
    refine y_callV E dX3_does_214 lk_X3_198 (m_goesNights hA ?_ ?_ ?_ ?_) (by rfl) (m_o hA _ _) rfl (by decide) (by omega) (by omega) rfl (Nat.le_of_ble_eq_true rfl) ?_ (fun _ _ _ h => h.elim)
    · exact hS
    · exact hU
    · exact hL
    · omega
    rintro _ _ ⟨rfl, rfl⟩
    try simp (decide := true) only [upN_s, upN_n, upN_upN, upN_id, remT_5, remT_8]
    exact fin217 _ (by first | (exfalso; omega) | (unfold doe0; rw [hs]; rfl))
  · refine y_tsOut (tgt := 212) E dX3_does_13 (by omega) (by omega) (by decide) ?_
    first | refine y_ald_n E dX3_does_212 (by rfl) ?_ | refine y_aload_n E dX3_does_212 (by rfl) ?_
    refine y_iload_n E dX3_does_213 (by rfl) ?_
    refine y_callV E dX3_does_214 lk_X3_198 (m_goesNights hA ?_ ?_ ?_ ?_) (by rfl) (m_o hA _ _) rfl (by decide) (by omega) (by omega) rfl (Nat.le_of_ble_eq_true rfl) ?_ (fun _ _ _ h => h.elim)
    · exact hS
    · exact hU
    · exact hL
    · omega
    rintro _ _ ⟨rfl, rfl⟩
    try simp (decide := true) only [upN_s, upN_n, upN_upN, upN_id, remT_5, remT_8]
    exact fin217 _ (by first | (exfalso; omega) | (unfold doe0; rw [hs]; rfl))
  · refine y_tsIn (tgt := 129) (off := 116) E dX3_does_13 (by omega) (by omega) (by rw [hs]; rfl) (by decide) ?_
    have hto := hto (by omega) (by omega)
    first | refine y_ald_n E dX3_does_129 (by rfl) ?_ | refine y_aload_n E dX3_does_129 (by rfl) ?_
    refine y_iload_n E dX3_does_130 (by rfl) ?_
    refine y_callV E dX3_does_131 lk_X3_183 (m_breaks hA ?_) (by rfl) (m_o hA _ _) rfl (by decide) (by omega) (by omega) rfl (Nat.le_of_ble_eq_true rfl) ?_ (fun _ _ _ h => h.elim)
    · first | omega | (simp (decide := true) only [upN_s, upN_n, upN_upN, upN_id, remT_5, remT_8] <;> omega)
    rintro _ _ ⟨rfl, rfl⟩
    try simp (decide := true) only [upN_s, upN_n, upN_upN, upN_id, remT_5, remT_8]
    refine y_goto (tgt := 217) E dX3_does_134 (by decide) ?_
    exact fin217 _ (by first | (exfalso; omega) | (unfold doe0; rw [hs]; rfl))
  · refine y_tsIn (tgt := 212) (off := 199) E dX3_does_13 (by omega) (by omega) (by rw [hs]; rfl) (by decide) ?_
    first | refine y_ald_n E dX3_does_212 (by rfl) ?_ | refine y_aload_n E dX3_does_212 (by rfl) ?_
    refine y_iload_n E dX3_does_213 (by rfl) ?_
    refine y_callV E dX3_does_214 lk_X3_198 (m_goesNights hA ?_ ?_ ?_ ?_) (by rfl) (m_o hA _ _) rfl (by decide) (by omega) (by omega) rfl (Nat.le_of_ble_eq_true rfl) ?_ (fun _ _ _ h => h.elim)
    · exact hS
    · exact hU
    · exact hL
    · omega
    rintro _ _ ⟨rfl, rfl⟩
    try simp (decide := true) only [upN_s, upN_n, upN_upN, upN_id, remT_5, remT_8]
    exact fin217 _ (by first | (exfalso; omega) | (unfold doe0; rw [hs]; rfl))
  · refine y_tsIn (tgt := 100) (off := 87) E dX3_does_13 (by omega) (by omega) (by rw [hs]; rfl) (by decide) ?_
    have hto := hto (by omega) (by omega)
    first | refine y_ald_n E dX3_does_100 (by rfl) ?_ | refine y_aload_n E dX3_does_100 (by rfl) ?_
    refine y_get E dX3_does_101 fl_X3_13_X3 (m_o hA _ _) (by rfl) ?_
    refine y_iload_n E dX3_does_104 (by rfl) ?_
    refine y_iconst E dX3_does_105 ?_
    refine y_callS E dX3_does_106 lk_X3_73 (m_towerAt) (by rfl) (by decide) (by omega) (by omega) rfl (Nat.le_of_ble_eq_true rfl) ?_ (fun _ _ _ h => h.elim)
    rintro _ _ ⟨rfl, rfl⟩
    first | refine y_ald_n E dX3_does_109 (by rfl) ?_ | refine y_aload_n E dX3_does_109 (by rfl) ?_
    refine y_get E dX3_does_110 fl_X3_38_X3 (m_o hA _ _) (by rfl) ?_
    refine y_iload_n E dX3_does_113 (by rfl) ?_
    refine y_iald E dX3_does_114 (m_r19 hA _ _) (by omega) ?_
    refine y_bipush E dX3_does_115 (by decide) ?_
    refine y_icmp_ne (tgt := 124) E dX3_does_117 (by decide) (by omega) (by omega) (fun h117 => ?_) (fun h117 => ?_)
    · refine y_iconst E dX3_does_124 ?_
      refine y_iast E dX3_does_125 (m_r5 hA _ _) (by omega) ?_
      refine y_heap (m_w5 hA) ?_
      try simp (decide := true) only [upN_s, upN_n, upN_upN, upN_id, remT_5, remT_8]
      refine y_goto (tgt := 217) E dX3_does_126 (by decide) ?_
      exact fin217 _ (by first | (exfalso; omega) | (unfold doe0; rw [hs]; rfl))
    · refine y_iconst E dX3_does_120 ?_
      refine y_goto (tgt := 125) E dX3_does_121 (by decide) ?_
      refine y_iast E dX3_does_125 (m_r5 hA _ _) (by omega) ?_
      refine y_heap (m_w5 hA) ?_
      try simp (decide := true) only [upN_s, upN_n, upN_upN, upN_id, remT_5, remT_8]
      refine y_goto (tgt := 217) E dX3_does_126 (by decide) ?_
      exact fin217 _ (by first | (exfalso; omega) | (unfold doe0; rw [hs]; rfl))
  · refine y_tsIn (tgt := 212) (off := 199) E dX3_does_13 (by omega) (by omega) (by rw [hs]; rfl) (by decide) ?_
    first | refine y_ald_n E dX3_does_212 (by rfl) ?_ | refine y_aload_n E dX3_does_212 (by rfl) ?_
    refine y_iload_n E dX3_does_213 (by rfl) ?_
    refine y_callV E dX3_does_214 lk_X3_198 (m_goesNights hA ?_ ?_ ?_ ?_) (by rfl) (m_o hA _ _) rfl (by decide) (by omega) (by omega) rfl (Nat.le_of_ble_eq_true rfl) ?_ (fun _ _ _ h => h.elim)
    · exact hS
    · exact hU
    · exact hL
    · omega
    rintro _ _ ⟨rfl, rfl⟩
    try simp (decide := true) only [upN_s, upN_n, upN_upN, upN_id, remT_5, remT_8]
    exact fin217 _ (by first | (exfalso; omega) | (unfold doe0; rw [hs]; rfl))
  · refine y_tsIn (tgt := 160) (off := 147) E dX3_does_13 (by omega) (by omega) (by rw [hs]; rfl) (by decide) ?_
    first | refine y_ald_n E dX3_does_160 (by rfl) ?_ | refine y_aload_n E dX3_does_160 (by rfl) ?_
    refine y_get E dX3_does_161 fl_X3_13_X3 (m_o hA _ _) (by rfl) ?_
    refine y_iconst E dX3_does_164 ?_
    refine y_iload_n E dX3_does_165 (by rfl) ?_
    refine y_iadd E dX3_does_166 ?_
    first | refine y_ald_n E dX3_does_167 (by rfl) ?_ | refine y_aload_n E dX3_does_167 (by rfl) ?_
    refine y_get E dX3_does_168 fl_X3_44_X3 (m_o hA _ _) (by rfl) ?_
    refine y_iload_n E dX3_does_171 (by rfl) ?_
    refine y_iald E dX3_does_172 (m_r21 hA _ _) (by omega) ?_
    refine y_iast E dX3_does_173 (m_r5 hA _ _) (by omega) ?_
    refine y_heap (m_w5 hA) ?_
    try simp (decide := true) only [upN_s, upN_n, upN_upN, upN_id, remT_5, remT_8]
    refine y_goto (tgt := 217) E dX3_does_174 (by decide) ?_
    exact fin217 _ (by first | (exfalso; omega) | (unfold doe0; rw [hs]; rfl))
  · refine y_tsIn (tgt := 212) (off := 199) E dX3_does_13 (by omega) (by omega) (by rw [hs]; rfl) (by decide) ?_
    first | refine y_ald_n E dX3_does_212 (by rfl) ?_ | refine y_aload_n E dX3_does_212 (by rfl) ?_
    refine y_iload_n E dX3_does_213 (by rfl) ?_
    refine y_callV E dX3_does_214 lk_X3_198 (m_goesNights hA ?_ ?_ ?_ ?_) (by rfl) (m_o hA _ _) rfl (by decide) (by omega) (by omega) rfl (Nat.le_of_ble_eq_true rfl) ?_ (fun _ _ _ h => h.elim)
    · exact hS
    · exact hU
    · exact hL
    · omega
    rintro _ _ ⟨rfl, rfl⟩
    try simp (decide := true) only [upN_s, upN_n, upN_upN, upN_id, remT_5, remT_8]
    exact fin217 _ (by first | (exfalso; omega) | (unfold doe0; rw [hs]; rfl))
  · refine y_tsIn (tgt := 212) (off := 199) E dX3_does_13 (by omega) (by omega) (by rw [hs]; rfl) (by decide) ?_
    first | refine y_ald_n E dX3_does_212 (by rfl) ?_ | refine y_aload_n E dX3_does_212 (by rfl) ?_
    refine y_iload_n E dX3_does_213 (by rfl) ?_
    refine y_callV E dX3_does_214 lk_X3_198 (m_goesNights hA ?_ ?_ ?_ ?_) (by rfl) (m_o hA _ _) rfl (by decide) (by omega) (by omega) rfl (Nat.le_of_ble_eq_true rfl) ?_ (fun _ _ _ h => h.elim)
    · exact hS
    · exact hU
    · exact hL
    · omega
    rintro _ _ ⟨rfl, rfl⟩
    try simp (decide := true) only [upN_s, upN_n, upN_upN, upN_id, remT_5, remT_8]
    exact fin217 _ (by first | (exfalso; omega) | (unfold doe0; rw [hs]; rfl))
  · refine y_tsIn (tgt := 212) (off := 199) E dX3_does_13 (by omega) (by omega) (by rw [hs]; rfl) (by decide) ?_
    first | refine y_ald_n E dX3_does_212 (by rfl) ?_ | refine y_aload_n E dX3_does_212 (by rfl) ?_
    refine y_iload_n E dX3_does_213 (by rfl) ?_
    refine y_callV E dX3_does_214 lk_X3_198 (m_goesNights hA ?_ ?_ ?_ ?_) (by rfl) (m_o hA _ _) rfl (by decide) (by omega) (by omega) rfl (Nat.le_of_ble_eq_true rfl) ?_ (fun _ _ _ h => h.elim)
    · exact hS
    · exact hU
    · exact hL
    · omega
    rintro _ _ ⟨rfl, rfl⟩
    try simp (decide := true) only [upN_s, upN_n, upN_upN, upN_id, remT_5, remT_8]
    exact fin217 _ (by first | (exfalso; omega) | (unfold doe0; rw [hs]; rfl))
  · refine y_tsIn (tgt := 212) (off := 199) E dX3_does_13 (by omega) (by omega) (by rw [hs]; rfl) (by decide) ?_
    first | refine y_ald_n E dX3_does_212 (by rfl) ?_ | refine y_aload_n E dX3_does_212 (by rfl) ?_
    refine y_iload_n E dX3_does_213 (by rfl) ?_
    refine y_callV E dX3_does_214 lk_X3_198 (m_goesNights hA ?_ ?_ ?_ ?_) (by rfl) (m_o hA _ _) rfl (by decide) (by omega) (by omega) rfl (Nat.le_of_ble_eq_true rfl) ?_ (fun _ _ _ h => h.elim)
    · exact hS
    · exact hU
    · exact hL
    · omega
    rintro _ _ ⟨rfl, rfl⟩
    try simp (decide := true) only [upN_s, upN_n, upN_upN, upN_id, remT_5, remT_8]
    exact fin217 _ (by first | (exfalso; omega) | (unfold doe0; rw [hs]; rfl))
  · refine y_tsIn (tgt := 212) (off := 199) E dX3_does_13 (by omega) (by omega) (by rw [hs]; rfl) (by decide) ?_
    first | refine y_ald_n E dX3_does_212 (by rfl) ?_ | refine y_aload_n E dX3_does_212 (by rfl) ?_
    refine y_iload_n E dX3_does_213 (by rfl) ?_
    refine y_callV E dX3_does_214 lk_X3_198 (m_goesNights hA ?_ ?_ ?_ ?_) (by rfl) (m_o hA _ _) rfl (by decide) (by omega) (by omega) rfl (Nat.le_of_ble_eq_true rfl) ?_ (fun _ _ _ h => h.elim)
    · exact hS
    · exact hU
    · exact hL
    · omega
    rintro _ _ ⟨rfl, rfl⟩
    try simp (decide := true) only [upN_s, upN_n, upN_upN, upN_id, remT_5, remT_8]
    exact fin217 _ (by first | (exfalso; omega) | (unfold doe0; rw [hs]; rfl))
  · refine y_tsIn (tgt := 100) (off := 87) E dX3_does_13 (by omega) (by omega) (by rw [hs]; rfl) (by decide) ?_
    have hto := hto (by omega) (by omega)
    first | refine y_ald_n E dX3_does_100 (by rfl) ?_ | refine y_aload_n E dX3_does_100 (by rfl) ?_
    refine y_get E dX3_does_101 fl_X3_13_X3 (m_o hA _ _) (by rfl) ?_
    refine y_iload_n E dX3_does_104 (by rfl) ?_
    refine y_iconst E dX3_does_105 ?_
    refine y_callS E dX3_does_106 lk_X3_73 (m_towerAt) (by rfl) (by decide) (by omega) (by omega) rfl (Nat.le_of_ble_eq_true rfl) ?_ (fun _ _ _ h => h.elim)
    rintro _ _ ⟨rfl, rfl⟩
    first | refine y_ald_n E dX3_does_109 (by rfl) ?_ | refine y_aload_n E dX3_does_109 (by rfl) ?_
    refine y_get E dX3_does_110 fl_X3_38_X3 (m_o hA _ _) (by rfl) ?_
    refine y_iload_n E dX3_does_113 (by rfl) ?_
    refine y_iald E dX3_does_114 (m_r19 hA _ _) (by omega) ?_
    refine y_bipush E dX3_does_115 (by decide) ?_
    refine y_icmp_ne (tgt := 124) E dX3_does_117 (by decide) (by omega) (by omega) (fun h117 => ?_) (fun h117 => ?_)
    · refine y_iconst E dX3_does_124 ?_
      refine y_iast E dX3_does_125 (m_r5 hA _ _) (by omega) ?_
      refine y_heap (m_w5 hA) ?_
      try simp (decide := true) only [upN_s, upN_n, upN_upN, upN_id, remT_5, remT_8]
      refine y_goto (tgt := 217) E dX3_does_126 (by decide) ?_
      exact fin217 _ (by first | (exfalso; omega) | (unfold doe0; rw [hs]; rfl))
    · refine y_iconst E dX3_does_120 ?_
      refine y_goto (tgt := 125) E dX3_does_121 (by decide) ?_
      refine y_iast E dX3_does_125 (m_r5 hA _ _) (by omega) ?_
      refine y_heap (m_w5 hA) ?_
      try simp (decide := true) only [upN_s, upN_n, upN_upN, upN_id, remT_5, remT_8]
      refine y_goto (tgt := 217) E dX3_does_126 (by decide) ?_
      exact fin217 _ (by first | (exfalso; omega) | (unfold doe0; rw [hs]; rfl))
  · refine y_tsIn (tgt := 137) (off := 124) E dX3_does_13 (by omega) (by omega) (by rw [hs]; rfl) (by decide) ?_
    have hto := hto (by omega) (by omega)
    first | refine y_ald_n E dX3_does_137 (by rfl) ?_ | refine y_aload_n E dX3_does_137 (by rfl) ?_
    refine y_get E dX3_does_138 fl_X3_13_X3 (m_o hA _ _) (by rfl) ?_
    refine y_iload_n E dX3_does_141 (by rfl) ?_
    refine y_iconst E dX3_does_142 ?_
    refine y_callS E dX3_does_143 lk_X3_73 (m_towerAt) (by rfl) (by decide) (by omega) (by omega) rfl (Nat.le_of_ble_eq_true rfl) ?_ (fun _ _ _ h => h.elim)
    rintro _ _ ⟨rfl, rfl⟩
    refine y_iconst E dX3_does_146 ?_
    refine y_iast E dX3_does_147 (m_r5 hA _ _) (by omega) ?_
    refine y_heap (m_w5 hA) ?_
    try simp (decide := true) only [upN_s, upN_n, upN_upN, upN_id, remT_5, remT_8]
    refine y_goto (tgt := 217) E dX3_does_148 (by decide) ?_
    exact fin217 _ (by first | (exfalso; omega) | (unfold doe0; rw [hs]; rfl))
  · refine y_tsIn (tgt := 212) (off := 199) E dX3_does_13 (by omega) (by omega) (by rw [hs]; rfl) (by decide) ?_
    first | refine y_ald_n E dX3_does_212 (by rfl) ?_ | refine y_aload_n E dX3_does_212 (by rfl) ?_
    refine y_iload_n E dX3_does_213 (by rfl) ?_
    refine y_callV E dX3_does_214 lk_X3_198 (m_goesNights hA ?_ ?_ ?_ ?_) (by rfl) (m_o hA _ _) rfl (by decide) (by omega) (by omega) rfl (Nat.le_of_ble_eq_true rfl) ?_ (fun _ _ _ h => h.elim)
    · exact hS
    · exact hU
    · exact hL
    · omega
    rintro _ _ ⟨rfl, rfl⟩
    try simp (decide := true) only [upN_s, upN_n, upN_upN, upN_id, remT_5, remT_8]
    exact fin217 _ (by first | (exfalso; omega) | (unfold doe0; rw [hs]; rfl))
  · refine y_tsIn (tgt := 212) (off := 199) E dX3_does_13 (by omega) (by omega) (by rw [hs]; rfl) (by decide) ?_
    first | refine y_ald_n E dX3_does_212 (by rfl) ?_ | refine y_aload_n E dX3_does_212 (by rfl) ?_
    refine y_iload_n E dX3_does_213 (by rfl) ?_
    refine y_callV E dX3_does_214 lk_X3_198 (m_goesNights hA ?_ ?_ ?_ ?_) (by rfl) (m_o hA _ _) rfl (by decide) (by omega) (by omega) rfl (Nat.le_of_ble_eq_true rfl) ?_ (fun _ _ _ h => h.elim)
    · exact hS
    · exact hU
    · exact hL
    · omega
    rintro _ _ ⟨rfl, rfl⟩
    try simp (decide := true) only [upN_s, upN_n, upN_upN, upN_id, remT_5, remT_8]
    exact fin217 _ (by first | (exfalso; omega) | (unfold doe0; rw [hs]; rfl))
  · refine y_tsIn (tgt := 177) (off := 164) E dX3_does_13 (by omega) (by omega) (by rw [hs]; rfl) (by decide) ?_
    have hto := hto (by omega) (by omega)
    first | refine y_ald_n E dX3_does_177 (by rfl) ?_ | refine y_aload_n E dX3_does_177 (by rfl) ?_
    refine y_iload_n E dX3_does_178 (by rfl) ?_
    first | refine y_ald_n E dX3_does_179 (by rfl) ?_ | refine y_aload_n E dX3_does_179 (by rfl) ?_
    refine y_get E dX3_does_180 fl_X3_44_X3 (m_o hA _ _) (by rfl) ?_
    refine y_iload_n E dX3_does_183 (by rfl) ?_
    refine y_iald E dX3_does_184 (m_r21 hA _ _) (by omega) ?_
    refine y_iconst E dX3_does_185 ?_
    first | refine y_ald_n E dX3_does_186 (by rfl) ?_ | refine y_aload_n E dX3_does_186 (by rfl) ?_
    refine y_get E dX3_does_187 fl_X3_44_X3 (m_o hA _ _) (by rfl) ?_
    refine y_iload_n E dX3_does_190 (by rfl) ?_
    refine y_iald E dX3_does_191 (m_r21 hA _ _) (by omega) ?_
    refine y_callS E dX3_does_192 lk_X3_274 (m_manySigns ?_) (by rfl) (by decide) (by omega) (by omega) rfl (Nat.le_of_ble_eq_true rfl) ?_ (fun _ _ _ h => h.elim)
    · first | omega | (simp (decide := true) only [upN_s, upN_n, upN_upN, upN_id, remT_5, remT_8] <;> omega)
    rintro _ _ ⟨rfl, rfl⟩
    refine y_ishl E dX3_does_195 (tb_1shlI (by omega)) ?_
    refine y_isub E dX3_does_196 ?_
    first | refine y_ald_n E dX3_does_197 (by rfl) ?_ | refine y_aload_n E dX3_does_197 (by rfl) ?_
    refine y_get E dX3_does_198 fl_X3_44_X3 (m_o hA _ _) (by rfl) ?_
    refine y_iload_n E dX3_does_201 (by rfl) ?_
    refine y_iald E dX3_does_202 (m_r21 hA _ _) (by omega) ?_
    refine y_callS E dX3_does_203 lk_X3_274 (m_manySigns ?_) (by rfl) (by decide) (by omega) (by omega) rfl (Nat.le_of_ble_eq_true rfl) ?_ (fun _ _ _ h => h.elim)
    · first | omega | (simp (decide := true) only [upN_s, upN_n, upN_upN, upN_id, remT_5, remT_8] <;> omega)
    rintro _ _ ⟨rfl, rfl⟩
    refine y_callV E dX3_does_206 lk_X3_157 (m_setsPattern hA ?_) (by rfl) (m_o hA _ _) rfl (by decide) (by omega) (by omega) rfl (Nat.le_of_ble_eq_true rfl) ?_ (fun _ _ _ h => h.elim)
    · first | omega | (simp (decide := true) only [upN_s, upN_n, upN_upN, upN_id, remT_5, remT_8] <;> omega)
    rintro _ _ ⟨rfl, rfl⟩
    try simp (decide := true) only [upN_s, upN_n, upN_upN, upN_id, remT_5, remT_8]
    refine y_goto (tgt := 217) E dX3_does_209 (by decide) ?_
    exact fin217 _ (by first | (exfalso; omega) | (unfold doe0; rw [hs]; rfl))
  · refine y_tsIn (tgt := 212) (off := 199) E dX3_does_13 (by omega) (by omega) (by rw [hs]; rfl) (by decide) ?_
    first | refine y_ald_n E dX3_does_212 (by rfl) ?_ | refine y_aload_n E dX3_does_212 (by rfl) ?_
    refine y_iload_n E dX3_does_213 (by rfl) ?_
    refine y_callV E dX3_does_214 lk_X3_198 (m_goesNights hA ?_ ?_ ?_ ?_) (by rfl) (m_o hA _ _) rfl (by decide) (by omega) (by omega) rfl (Nat.le_of_ble_eq_true rfl) ?_ (fun _ _ _ h => h.elim)
    · exact hS
    · exact hU
    · exact hL
    · omega
    rintro _ _ ⟨rfl, rfl⟩
    try simp (decide := true) only [upN_s, upN_n, upN_upN, upN_id, remT_5, remT_8]
    exact fin217 _ (by first | (exfalso; omega) | (unfold doe0; rw [hs]; rfl))
  · refine y_tsIn (tgt := 212) (off := 199) E dX3_does_13 (by omega) (by omega) (by rw [hs]; rfl) (by decide) ?_
    first | refine y_ald_n E dX3_does_212 (by rfl) ?_ | refine y_aload_n E dX3_does_212 (by rfl) ?_
    refine y_iload_n E dX3_does_213 (by rfl) ?_
    refine y_callV E dX3_does_214 lk_X3_198 (m_goesNights hA ?_ ?_ ?_ ?_) (by rfl) (m_o hA _ _) rfl (by decide) (by omega) (by omega) rfl (Nat.le_of_ble_eq_true rfl) ?_ (fun _ _ _ h => h.elim)
    · exact hS
    · exact hU
    · exact hL
    · omega
    rintro _ _ ⟨rfl, rfl⟩
    try simp (decide := true) only [upN_s, upN_n, upN_upN, upN_id, remT_5, remT_8]
    exact fin217 _ (by first | (exfalso; omega) | (unfold doe0; rw [hs]; rfl))
  · refine y_tsIn (tgt := 151) (off := 138) E dX3_does_13 (by omega) (by omega) (by rw [hs]; rfl) (by decide) ?_
    have hto := hto (by omega) (by omega)
    first | refine y_ald_n E dX3_does_151 (by rfl) ?_ | refine y_aload_n E dX3_does_151 (by rfl) ?_
    refine y_iload_n E dX3_does_152 (by rfl) ?_
    refine y_callV E dX3_does_153 lk_X3_168 (m_fits hA ?_ ?_ ?_) (by rfl) (m_o hA _ _) rfl (by decide) (by omega) (by omega) rfl (Nat.le_of_ble_eq_true rfl) ?_ (fun _ _ _ h => h.elim)
    · exact hS
    · omega
    · exact h12 hs
    rintro _ _ ⟨rfl, rfl⟩
    refine y_pop E dX3_does_156 rfl ?_
    refine y_goto (tgt := 217) E dX3_does_157 (by decide) ?_
    exact fin217 _ (by first | (exfalso; omega) | (unfold doe0; rw [hs]; rfl))
theorem m_read (hA : mA A) (hS : SH (T 5)) (hU : UT (T 5)) (hL : LT (T 5)) (hc : 0 ≤ T 9 0 ∧ T 9 0 ≤ 8) (hf : 0 ≤ T 10 0 ∧ T 10 0 ≤ 7) (hP : PI (upN (upN (upN T 0 (fun _ => 0)) 22 (fun _ => 0)) 23 (fun _ => 0))) (hR : (rdA (upN T 0 (fun _ => 0))).1 = true → RD (upN T 0 (fun _ => 0)) (rdA (upN T 0 (fun _ => 0))).2) : Ct_X3_read Γ 11 0 0 [.ref (A 0)] (mH A T G) (fun v G' => v = some (.int (iI ((o_read T).1))) ∧ G' = mH A ((o_read T).2) G) noX := by
  refine y_start (lv0 := [some (.ref (A 0)), none, none]) (nm := "read") (own := RX3) (by decide +kernel) rfl rfl (by exact Nat.le_of_ble_eq_true rfl) (by rfl) ?_
  intro Z Q E F
  have loop : ∀ V : Nat → Int → Int, V = (rdA (upN T 0 (fun _ => 0))).2 → (rdA (upN T 0 (fun _ => 0))).1 = true → RD (upN T 0 (fun _ => 0)) V → ∀ (f : Nat) (k : Int) (x : Int → Int) (l2 : Option Value), SH x → UT x → LT x → 0 ≤ k → k ≤ V 23 0 → V 23 0 - k < f → rdF V f k x = rdS V → Y Γ Z 0 0 Q (mH A (upN (upN V 8 (cpy (V 5) (V 8) 0 128)) 5 x) G) 24 [some (.ref (A 0)), some (.int (iI k)), l2] [] := by
    intro V hV hb hRV
    obtain ⟨r1, r2, r3⟩ := hRV
    have e9 : V 9 = T 9 := r1 9 (by decide) (by decide)
    have e10 : V 10 = T 10 := r1 10 (by decide) (by decide)
    intro f
    induction f with
    | zero => intro k x l2 hx hu hl k0 k1 kf; exfalso; omega
    | succ f ih =>
      intro k x l2 hx hu hl k0 k1 kf hfin
      simp only [rdF] at hfin
      have r3k := fun h : k < V 23 0 => r3 k k0 h
      refine y_iload_n E dX3_read_24 (by rfl) ?_
      first | refine y_ald_n E dX3_read_25 (by rfl) ?_ | refine y_aload_n E dX3_read_25 (by rfl) ?_
      refine y_get E dX3_read_26 fl_X3_253_X3 (m_o hA _ _) (by rfl) ?_
      try simp (decide := true) only [upN_s, upN_n, upN_upN, upN_id, remT_5, remT_8]
      refine y_icmp_ge (tgt := 96) E dX3_read_29 (by decide) (by omega) (by omega) (fun h29 => ?_) (fun h29 => ?_)
      · first | refine y_ald_n E dX3_read_96 (by rfl) ?_ | refine y_aload_n E dX3_read_96 (by rfl) ?_
        refine y_callV E dX3_read_97 lk_X3_123 (m_remembers hA ?_ ?_) (by rfl) (m_o hA _ _) rfl (by decide) (by omega) (by omega) rfl (Nat.le_of_ble_eq_true rfl) ?_ (fun _ _ _ h => h.elim)
        · (show 0 ≤ V 9 0 ∧ V 9 0 ≤ 8; rw [e9]; exact hc)
        · (show 0 ≤ V 10 0 ∧ V 10 0 ≤ 7; rw [e10]; exact hf)
        rintro _ _ ⟨rfl, rfl⟩
        try simp (decide := true) only [upN_s, upN_n, upN_upN, upN_id, remT_5, remT_8]
        first | refine y_ald_n E dX3_read_100 (by rfl) ?_ | refine y_aload_n E dX3_read_100 (by rfl) ?_
        refine y_get E dX3_read_101 fl_X3_253_X3 (m_o hA _ _) (by rfl) ?_
        try simp (decide := true) only [upN_s, upN_n, upN_upN, upN_id, remT_5, remT_8]
        refine y_ireturn E F rfl rfl dX3_read_104 (by omega) (by omega) ?_
        rw [if_neg (by omega)] at hfin
        rw [show o_read T = (V 23 0, remT (upN (upN V 8 (cpy (V 5) (V 8) 0 128)) 5 x)) from by unfold o_read; rw [if_neg (by rw [hb]; decide), ← hV, ← hfin]]
        exact ⟨rfl, rfl⟩
      · first | refine y_ald_n E dX3_read_32 (by rfl) ?_ | refine y_aload_n E dX3_read_32 (by rfl) ?_
        refine y_iload_n E dX3_read_33 (by rfl) ?_
        refine y_callV E dX3_read_34 lk_X3_283 (m_hindersAt hA ?_ ?_ ?_ ?_ ?_ ?_ ?_) (by rfl) (m_o hA _ _) rfl (by decide) (by omega) (by omega) rfl (Nat.le_of_ble_eq_true rfl) ?_ (fun _ _ _ h => h.elim)
        · exact hx
        · exact hu
        · omega
        · exact (r3k h29).2.1
        · exact (r3k h29).2.2.1
        · exact (r3k h29).2.2.2
        · exact (r3k h29).1
        rintro _ _ ⟨rfl, rfl⟩
        try simp (decide := true) only [upN_s, upN_n, upN_upN, upN_id, remT_5, remT_8]
        refine y_ifd_eq (tgt := 85) E dX3_read_37 (by decide) (fun h37 => ?_) (fun h37 => ?_)
        · have hq : hinS x (V 19 k) (V 20 k) (V 21 k) = none := by
            cases e : hinS x (V 19 k) (V 20 k) (V 21 k) with
            | none => rfl
            | some q => exact absurd (by rw [e]; rfl) h37
          rw [hinO_n h37]
          first | refine y_ald_n E dX3_read_85 (by rfl) ?_ | refine y_aload_n E dX3_read_85 (by rfl) ?_
          refine y_iload_n E dX3_read_86 (by rfl) ?_
          refine y_callV E dX3_read_87 lk_X3_289 (m_does hA ?_ ?_ ?_ ?_ ?_ ?_ ?_ ?_ ?_) (by rfl) (m_o hA _ _) rfl (by decide) (by omega) (by omega) rfl (Nat.le_of_ble_eq_true rfl) ?_ (fun _ _ _ h => h.elim)
          · exact hx
          · exact hu
          · exact hl
          · omega
          · exact (r3k h29).2.1
          · exact (r3k h29).2.2.1
          · exact (r3k h29).2.2.2
          · exact (r3k h29).1
          · exact hq
          rintro _ _ ⟨rfl, rfl⟩
          try simp (decide := true) only [upN_s, upN_n, upN_upN, upN_id, remT_5, remT_8]
          refine y_iinc E dX3_read_90 (by rfl) ?_
          refine y_goto (tgt := 24) E dX3_read_93 (by decide) ?_
          obtain ⟨d1, d2, d3⟩ := doeS_ok hx hu hl (r3k h29).1 (r3k h29).2.2.2 hq
          rw [if_pos h29, hq] at hfin
          exact ih (k + 1) _ _ d1 d2 d3 (by omega) (by omega) (by omega) hfin
        · obtain ⟨q, hq⟩ := Option.isSome_iff_exists.mp h37
          rw [hq]
          refine y_heap (show _ = mH A (upN (upN (upN (upN V 8 (cpy (V 5) (V 8) 0 128)) 5 x) 1 (fun _ => q.1)) 2 (fun _ => q.2)) G from rfl) ?_
          first | refine y_ald_n E dX3_read_40 (by rfl) ?_ | refine y_aload_n E dX3_read_40 (by rfl) ?_
          refine y_callV E dX3_read_41 lk_X3_286 (m_goesBack hA) (by rfl) (m_o hA _ _) rfl (by decide) (by omega) (by omega) rfl (Nat.le_of_ble_eq_true rfl) ?_ (fun _ _ _ h => h.elim)
          rintro _ _ ⟨rfl, rfl⟩
          try simp (decide := true) only [upN_s, upN_n, upN_upN, upN_id, remT_5, remT_8]
          first | refine y_ald_n E dX3_read_44 (by rfl) ?_ | refine y_aload_n E dX3_read_44 (by rfl) ?_
          refine y_get E dX3_read_45 fl_X3_7_X3 (m_o hA _ _) (by rfl) ?_
          refine y_iconst E dX3_read_48 ?_
          first | refine y_ald_n E dX3_read_49 (by rfl) ?_ | refine y_aload_n E dX3_read_49 (by rfl) ?_
          refine y_get E dX3_read_50 fl_X3_54_X3 (m_o hA _ _) (by rfl) ?_
          try simp (decide := true) only [upN_s, upN_n, upN_upN, upN_id, remT_5, remT_8]
          refine y_iast E dX3_read_53 (m_r4 hA _ _) (by omega) ?_
          refine y_heap (m_w4 hA) ?_
          try simp (decide := true) only [upN_s, upN_n, upN_upN, upN_id, remT_5, remT_8]
          first | refine y_ald_n E dX3_read_54 (by rfl) ?_ | refine y_aload_n E dX3_read_54 (by rfl) ?_
          refine y_get E dX3_read_55 fl_X3_7_X3 (m_o hA _ _) (by rfl) ?_
          refine y_iconst E dX3_read_58 ?_
          first | refine y_ald_n E dX3_read_59 (by rfl) ?_ | refine y_aload_n E dX3_read_59 (by rfl) ?_
          refine y_get E dX3_read_60 fl_X3_57_X3 (m_o hA _ _) (by rfl) ?_
          try simp (decide := true) only [upN_s, upN_n, upN_upN, upN_id, remT_5, remT_8]
          refine y_iast E dX3_read_63 (m_r4 hA _ _) (by omega) ?_
          refine y_heap (m_w4 hA) ?_
          try simp (decide := true) only [upN_s, upN_n, upN_upN, upN_id, remT_5, remT_8]
          first | refine y_ald_n E dX3_read_64 (by rfl) ?_ | refine y_aload_n E dX3_read_64 (by rfl) ?_
          refine y_bipush E dX3_read_65 (by decide) ?_
          refine y_iload_n E dX3_read_67 (by rfl) ?_
          refine y_callV E dX3_read_68 lk_X3_132 (m_hinders hA) (by rfl) (m_o hA _ _) rfl (by decide) (by omega) (by omega) rfl (Nat.le_of_ble_eq_true rfl) ?_ (fun _ _ _ h => h.elim)
          rintro _ _ ⟨rfl, rfl⟩
          try simp (decide := true) only [upN_s, upN_n, upN_upN, upN_id, remT_5, remT_8]
          refine y_pop E dX3_read_71 rfl ?_
          first | refine y_ald_n E dX3_read_72 (by rfl) ?_ | refine y_aload_n E dX3_read_72 (by rfl) ?_
          refine y_iconst E dX3_read_73 ?_
          refine y_callV E dX3_read_74 lk_X3_135 (m_refuses hA) (by rfl) (m_o hA _ _) rfl (by decide) (by omega) (by omega) rfl (Nat.le_of_ble_eq_true rfl) ?_ (fun _ _ _ h => h.elim)
          rintro _ _ ⟨rfl, rfl⟩
          try simp (decide := true) only [upN_s, upN_n, upN_upN, upN_id, remT_5, remT_8]
          refine y_istore_n (j := 2) E dX3_read_77 rfl (Nat.le_of_ble_eq_true rfl) ?_
          first | refine y_ald_n E dX3_read_78 (by rfl) ?_ | refine y_aload_n E dX3_read_78 (by rfl) ?_
          refine y_iconst E dX3_read_79 ?_
          refine y_put E dX3_read_80 fl_X3_60_X3 fw_X3_3 rfl (by rfl) (m_o hA _ _) (Nat.le_of_ble_eq_true rfl) ?_
          refine y_heap (m_p3 hA) ?_
          refine y_iload_n E dX3_read_83 (by rfl) ?_
          refine y_ireturn E F rfl rfl dX3_read_84 (by omega) (by omega) ?_
          rw [if_pos h29, hq] at hfin
          rw [show o_read T = (0, rfX V x k q.1 q.2) from by unfold o_read; rw [if_neg (by rw [hb]; decide), ← hV, ← hfin]]
          refine ⟨rfl, congrArg (fun T => mH A T G) ?_⟩
          funext j
          rcases (show j = 0 ∨ j = 1 ∨ j = 2 ∨ j = 3 ∨ j = 4 ∨ j = 5 ∨ j = 8 ∨ (j ≠ 0 ∧ j ≠ 1 ∧ j ≠ 2 ∧ j ≠ 3 ∧ j ≠ 4 ∧ j ≠ 5 ∧ j ≠ 8) by omega) with h | h | h | h | h | h | h | ⟨h0, h1, h2, h3, h4, h5, h8⟩
          all_goals first | (subst h; rfl) | (unfold rfX refT; simp [upN, h0, h1, h2, h3, h4, h5, h8])
  first | refine y_ald_n E dX3_read_0 (by rfl) ?_ | refine y_aload_n E dX3_read_0 (by rfl) ?_
  refine y_iconst E dX3_read_1 ?_
  refine y_put E dX3_read_2 fl_X3_51_X3 fw_X3_0 rfl (by rfl) (m_o hA _ _) (Nat.le_of_ble_eq_true rfl) ?_
  refine y_heap (m_p0 hA) ?_
  first | refine y_ald_n E dX3_read_5 (by rfl) ?_ | refine y_aload_n E dX3_read_5 (by rfl) ?_
  refine y_callV E dX3_read_6 lk_X3_280 (m_readsAll hA ?_) (by rfl) (m_o hA _ _) rfl (by decide) (by omega) (by omega) rfl (Nat.le_of_ble_eq_true rfl) ?_ (fun _ _ _ h => h.elim)
  · exact hP
  rintro _ _ ⟨rfl, rfl⟩
  try simp (decide := true) only [upN_s, upN_n, upN_upN, upN_id, remT_5, remT_8]
  refine y_ifb_ne (tgt := 18) E dX3_read_9 (by decide) (fun h9 => ?_) (fun h9 => ?_)
  · obtain ⟨V, hV⟩ : ∃ V, V = (rdA (upN T 0 (fun _ => 0))).2 := ⟨_, rfl⟩
    have hRV := hR h9
    rw [← hV] at hRV ⊢
    have e5 : V 5 = T 5 := hRV.1 5 (by decide) (by decide)
    first | refine y_ald_n E dX3_read_18 (by rfl) ?_ | refine y_aload_n E dX3_read_18 (by rfl) ?_
    refine y_callV E dX3_read_19 lk_X3_138 (m_notes hA) (by rfl) (m_o hA _ _) rfl (by decide) (by omega) (by omega) rfl (Nat.le_of_ble_eq_true rfl) ?_ (fun _ _ _ h => h.elim)
    rintro _ _ ⟨rfl, rfl⟩
    try simp (decide := true) only [upN_s, upN_n, upN_upN, upN_id, remT_5, remT_8]
    refine y_iconst E dX3_read_22 ?_
    refine y_istore_n (j := 1) E dX3_read_23 rfl (Nat.le_of_ble_eq_true rfl) ?_
    refine y_heap (show _ = mH A (upN (upN V 8 (cpy (V 5) (V 8) 0 128)) 5 (V 5)) G from ?_) (loop V hV h9 hRV 32 0 (V 5) _ (by rw [e5]; exact hS) (by rw [e5]; exact hU) (by rw [e5]; exact hL) (by omega) hRV.2.1.1 (by have := hRV.2.1; omega) (by unfold rdS; rw [opq_eq]))
    exact congrArg (fun T => mH A T G) (upN_id (upN V 8 (cpy (V 5) (V 8) 0 128)) 5).symm
  · first | refine y_ald_n E dX3_read_12 (by rfl) ?_ | refine y_aload_n E dX3_read_12 (by rfl) ?_
    refine y_iconst E dX3_read_13 ?_
    refine y_callV E dX3_read_14 lk_X3_63 (m_fails hA) (by rfl) (m_o hA _ _) rfl (by decide) (by omega) (by omega) rfl (Nat.le_of_ble_eq_true rfl) ?_ (fun _ _ _ h => h.elim)
    rintro _ _ ⟨rfl, rfl⟩
    try simp (decide := true) only [upN_s, upN_n, upN_upN, upN_id, remT_5, remT_8]
    refine y_ireturn E F rfl rfl dX3_read_17 (by omega) (by omega) (by rw [show o_read T = (0, upN (rdA (upN T 0 (fun _ => 0))).2 0 (fun _ => 1)) from by unfold o_read; rw [if_pos h9]]; exact ⟨rfl, rfl⟩)
end Tw16
