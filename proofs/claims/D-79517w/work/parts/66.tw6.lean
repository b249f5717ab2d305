/-! ===== the twin: walks of what changes a row ===== -/
section Tw6
variable {Γ : yG} {A : Nat → Nat} {T : Nat → Int → Int} {G : yH}
set_option maxHeartbeats 4000000
theorem m_notes (hA : mA A) : Ct_X3_notes Γ 1 0 0 [.ref (A 0)] (mH A T G) (fun v G' => v = none ∧ G' = mH A (upN T 8 (cpy (T 5) (T 8) 0 128)) G) noX := by
  refine y_start (lv0 := [some (.ref (A 0)), none]) (nm := "notes") (own := RX3) (by decide +kernel) rfl rfl (by exact Nat.le_of_ble_eq_true rfl) (by rfl) ?_
  intro Z Q E F
  have loop : ∀ i : Int, 0 ≤ i → i ≤ 128 → Y Γ Z 0 0 Q (mH A (upN T 8 (cpy (T 5) (T 8) 0 i)) G) 2 [some (.ref (A 0)), some (.int (iI i))] [] := by
    refine loopDown 128 ?_
    intro i ih h0 h1
    refine y_iload_n E dX3_notes_2 (by rfl) ?_
    refine y_sipush E dX3_notes_3 (by decide) ?_
    refine y_icmp_ge (tgt := 27) E dX3_notes_6 (by decide) (by omega) (by omega) (fun h6 => ?_) (fun h6 => ?_)
    · refine y_return E F rfl dX3_notes_27 (by omega) (by omega) ⟨rfl, by rw [show i = 128 by omega]⟩
    · first | refine y_ald_n E dX3_notes_9 (by rfl) ?_ | refine y_aload_n E dX3_notes_9 (by rfl) ?_
      refine y_get E dX3_notes_10 fl_X3_22_X3 (m_o hA _ _) (by rfl) ?_
      refine y_iload_n E dX3_notes_13 (by rfl) ?_
      first | refine y_ald_n E dX3_notes_14 (by rfl) ?_ | refine y_aload_n E dX3_notes_14 (by rfl) ?_
      refine y_get E dX3_notes_15 fl_X3_13_X3 (m_o hA _ _) (by rfl) ?_
      refine y_iload_n E dX3_notes_18 (by rfl) ?_
      refine y_iald E dX3_notes_19 (m_r5 hA _ _) (by omega) ?_
      try simp (decide := true) only [upN_s, upN_n, upN_upN, upN_id]
      refine y_iast E dX3_notes_20 (m_r8 hA _ _) (by omega) ?_
      refine y_heap (m_w8 hA) ?_
      try simp (decide := true) only [upN_s, upN_n, upN_upN, upN_id]
      refine y_iinc E dX3_notes_21 (by rfl) ?_
      refine y_goto (tgt := 2) E dX3_notes_24 (by decide) ?_
      rw [cpy_s0 h0]
      exact ih (by omega) (by omega) (by omega)
  refine y_iconst E dX3_notes_0 ?_
  refine y_istore_n (j := 1) E dX3_notes_1 rfl (Nat.le_of_ble_eq_true rfl) ?_
  refine y_heap (show _ = mH A (upN T 8 (cpy (T 5) (T 8) 0 0)) G from by rw [cpy_0, upN_id]) (loop 0 (by omega) (by omega))
theorem m_goesBack (hA : mA A) : Ct_X3_goesBack Γ 1 0 0 [.ref (A 0)] (mH A T G) (fun v G' => v = none ∧ G' = mH A (upN T 5 (cpy (T 8) (T 5) 0 128)) G) noX := by
  refine y_start (lv0 := [some (.ref (A 0)), none]) (nm := "goesBack") (own := RX3) (by decide +kernel) rfl rfl (by exact Nat.le_of_ble_eq_true rfl) (by rfl) ?_
  intro Z Q E F
  have loop : ∀ i : Int, 0 ≤ i → i ≤ 128 → Y Γ Z 0 0 Q (mH A (upN T 5 (cpy (T 8) (T 5) 0 i)) G) 2 [some (.ref (A 0)), some (.int (iI i))] [] := by
    refine loopDown 128 ?_
    intro i ih h0 h1
    refine y_iload_n E dX3_goesBack_2 (by rfl) ?_
    refine y_sipush E dX3_goesBack_3 (by decide) ?_
    refine y_icmp_ge (tgt := 27) E dX3_goesBack_6 (by decide) (by omega) (by omega) (fun h6 => ?_) (fun h6 => ?_)
    · refine y_return E F rfl dX3_goesBack_27 (by omega) (by omega) ⟨rfl, by rw [show i = 128 by omega]⟩
    · first | refine y_ald_n E dX3_goesBack_9 (by rfl) ?_ | refine y_aload_n E dX3_goesBack_9 (by rfl) ?_
      refine y_get E dX3_goesBack_10 fl_X3_13_X3 (m_o hA _ _) (by rfl) ?_
      refine y_iload_n E dX3_goesBack_13 (by rfl) ?_
      first | refine y_ald_n E dX3_goesBack_14 (by rfl) ?_ | refine y_aload_n E dX3_goesBack_14 (by rfl) ?_
      refine y_get E dX3_goesBack_15 fl_X3_22_X3 (m_o hA _ _) (by rfl) ?_
      refine y_iload_n E dX3_goesBack_18 (by rfl) ?_
      refine y_iald E dX3_goesBack_19 (m_r8 hA _ _) (by omega) ?_
      try simp (decide := true) only [upN_s, upN_n, upN_upN, upN_id]
      refine y_iast E dX3_goesBack_20 (m_r5 hA _ _) (by omega) ?_
      refine y_heap (m_w5 hA) ?_
      try simp (decide := true) only [upN_s, upN_n, upN_upN, upN_id]
      refine y_iinc E dX3_goesBack_21 (by rfl) ?_
      refine y_goto (tgt := 2) E dX3_goesBack_24 (by decide) ?_
      rw [cpy_s0 h0]
      exact ih (by omega) (by omega) (by omega)
  refine y_iconst E dX3_goesBack_0 ?_
  refine y_istore_n (j := 1) E dX3_goesBack_1 rfl (Nat.le_of_ble_eq_true rfl) ?_
  refine y_heap (show _ = mH A (upN T 5 (cpy (T 8) (T 5) 0 0)) G from by rw [cpy_0, upN_id]) (loop 0 (by omega) (by omega))
theorem m_remembers (hA : mA A) (hc : 0 ≤ T 9 0 ∧ T 9 0 ≤ 8) (hf : 0 ≤ T 10 0 ∧ T 10 0 ≤ 7) : Ct_X3_remembers Γ 1 0 0 [.ref (A 0)] (mH A T G) (fun v G' => v = none ∧ G' = mH A (remT T) G) noX := by
  refine y_start (lv0 := [some (.ref (A 0)), none, none]) (nm := "remembers") (own := RX3) (by decide +kernel) rfl rfl (by exact Nat.le_of_ble_eq_true rfl) (by rfl) ?_
  intro Z Q E F
  have loop : ∀ T1 : Nat → Int → Int, T1 8 = T 8 → T1 6 = T 6 → T1 9 0 = rch T → ∀ off : Int, 0 ≤ off → off ≤ 896 → upN (upN T1 6 (cpy (T 8) (T 6) off 128)) 9 (fun _ => rch T + 1) = remT T → ∀ i : Int, 0 ≤ i → i ≤ 128 → Y Γ Z 0 0 Q (mH A (upN T1 6 (cpy (T 8) (T 6) off i)) G) 51 [some (.ref (A 0)), some (.int (iI off)), some (.int (iI i))] [] := by
    intro T1 e8 e6 e9 off o0 o1 hfin
    refine loopDown 128 ?_
    intro i ih h0 h1
    refine y_iload_n E dX3_remembers_51 (by rfl) ?_
    refine y_sipush E dX3_remembers_52 (by decide) ?_
    refine y_icmp_ge (tgt := 78) E dX3_remembers_55 (by decide) (by omega) (by omega) (fun h55 => ?_) (fun h55 => ?_)
    · first | refine y_ald_n E dX3_remembers_78 (by rfl) ?_ | refine y_aload_n E dX3_remembers_78 (by rfl) ?_
      refine y_dup E dX3_remembers_79 rfl ?_
      refine y_get E dX3_remembers_80 fl_X3_67_X3 (m_o hA _ _) (by rfl) ?_
      try simp (decide := true) only [upN_s, upN_n, upN_upN, upN_id]
      rw [e9]
      refine y_iconst E dX3_remembers_83 ?_
      refine y_iadd E dX3_remembers_84 ?_
      refine y_put E dX3_remembers_85 fl_X3_67_X3 fw_X3_9 rfl (by rfl) (m_o hA _ _) (Nat.le_of_ble_eq_true rfl) ?_
      refine y_heap (m_p9 hA) ?_
      refine y_return E F rfl dX3_remembers_88 (by omega) (by omega) ⟨rfl, by rw [show i = 128 by omega, hfin]⟩
    · first | refine y_ald_n E dX3_remembers_58 (by rfl) ?_ | refine y_aload_n E dX3_remembers_58 (by rfl) ?_
      refine y_get E dX3_remembers_59 fl_X3_16_X3 (m_o hA _ _) (by rfl) ?_
      refine y_iload_n E dX3_remembers_62 (by rfl) ?_
      refine y_iload_n E dX3_remembers_63 (by rfl) ?_
      refine y_iadd E dX3_remembers_64 ?_
      first | refine y_ald_n E dX3_remembers_65 (by rfl) ?_ | refine y_aload_n E dX3_remembers_65 (by rfl) ?_
      refine y_get E dX3_remembers_66 fl_X3_22_X3 (m_o hA _ _) (by rfl) ?_
      refine y_iload_n E dX3_remembers_69 (by rfl) ?_
      refine y_iald E dX3_remembers_70 (m_r8 hA _ _) (by omega) ?_
      try simp (decide := true) only [upN_s, upN_n, upN_upN, upN_id]
      rw [e8]
      refine y_iast E dX3_remembers_71 (m_r6 hA _ _) (by omega) ?_
      refine y_heap (m_w6 hA) ?_
      try simp (decide := true) only [upN_s, upN_n, upN_upN, upN_id]
      refine y_iinc E dX3_remembers_72 (by rfl) ?_
      refine y_goto (tgt := 51) E dX3_remembers_75 (by decide) ?_
      rw [cpy_s h0]
      exact ih (by omega) (by omega) (by omega)
  have from32 : ∀ T1 : Nat → Int → Int, T1 8 = T 8 → T1 6 = T 6 → T1 10 0 = rfc T 0 → T1 9 0 = rch T → 0 ≤ rfc T 0 → 0 ≤ rch T → upN (upN T1 6 (cpy (T 8) (T 6) (128 * ((rfc T 0 + rch T) % 8)) 128)) 9 (fun _ => rch T + 1) = remT T → rfc T 0 ≤ 7 → rch T ≤ 7 → Y Γ Z 0 0 Q (mH A T1 G) 32 [some (.ref (A 0)), none, none] [] := by
    intro T1 e8 e6 e10 e9 f0 c0 hfin f1 c1
    refine y_sipush E dX3_remembers_32 (by decide) ?_
    first | refine y_ald_n E dX3_remembers_35 (by rfl) ?_ | refine y_aload_n E dX3_remembers_35 (by rfl) ?_
    refine y_get E dX3_remembers_36 fl_X3_70_X3 (m_o hA _ _) (by rfl) ?_
    rw [e10]
    first | refine y_ald_n E dX3_remembers_39 (by rfl) ?_ | refine y_aload_n E dX3_remembers_39 (by rfl) ?_
    refine y_get E dX3_remembers_40 fl_X3_67_X3 (m_o hA _ _) (by rfl) ?_
    rw [e9]
    refine y_iadd E dX3_remembers_43 ?_
    refine y_bipush E dX3_remembers_44 (by decide) ?_
    refine y_irem E dX3_remembers_46 (by omega) (by omega) ?_
    refine y_imul E dX3_remembers_47 ?_
    refine y_istore_n (j := 1) E dX3_remembers_48 rfl (Nat.le_of_ble_eq_true rfl) ?_
    refine y_iconst E dX3_remembers_49 ?_
    refine y_istore_n (j := 2) E dX3_remembers_50 rfl (Nat.le_of_ble_eq_true rfl) ?_
    refine y_heap (show _ = mH A (upN T1 6 (cpy (T 8) (T 6) (128 * ((rfc T 0 + rch T) % 8)) 0)) G from by rw [cpy_0, ← e6, upN_id]) (loop T1 e8 e6 e9 _ (by omega) (by omega) hfin 0 (by omega) (by omega))
  first | refine y_ald_n E dX3_remembers_0 (by rfl) ?_ | refine y_aload_n E dX3_remembers_0 (by rfl) ?_
  refine y_get E dX3_remembers_1 fl_X3_67_X3 (m_o hA _ _) (by rfl) ?_
  refine y_bipush E dX3_remembers_4 (by decide) ?_
  refine y_icmp_ne (tgt := 32) E dX3_remembers_6 (by decide) (by omega) (by omega) (fun h6 => ?_) (fun h6 => ?_)
  · have c0 : rch T = 7 ∨ (rch T = T 9 0 ∧ rch T ≠ 8) := by unfold rch; split <;> omega
    have f0 : 0 ≤ rfc T 0 ∧ rfc T 0 ≤ 7 := by
      unfold rfc
      split
      all_goals first | exact hf | (show 0 ≤ (T 10 0 + 1) % 8 ∧ (T 10 0 + 1) % 8 ≤ 7; omega)
    first
      | exact from32 T rfl rfl (by unfold rfc; rw [if_neg h6]) (by unfold rch; rw [if_neg h6]) f0.1 (by omega) (by unfold remT; rw [show rfc T = T 10 from by unfold rfc; rw [if_neg h6], upN_id]) f0.2 (by omega)
      | refine from32 (upN (upN T 10 (fun _ => (T 10 0 + 1) % 8)) 9 (fun _ => T 9 0 - 1)) rfl rfl (by unfold rfc; rw [if_pos h6]; rfl) (by unfold rch; rw [if_pos h6]; show T 9 0 - 1 = 7; omega) f0.1 (by omega) ?_ f0.2 (by omega)
        unfold remT
        rw [show rfc T = fun _ => (T 10 0 + 1) % 8 from by unfold rfc; rw [if_pos h6]]
        funext j
        by_cases a : j = 9
        · simp [upN, a]
        · simp [upN, a]
  · first | refine y_ald_n E dX3_remembers_9 (by rfl) ?_ | refine y_aload_n E dX3_remembers_9 (by rfl) ?_
    first | refine y_ald_n E dX3_remembers_10 (by rfl) ?_ | refine y_aload_n E dX3_remembers_10 (by rfl) ?_
    refine y_get E dX3_remembers_11 fl_X3_70_X3 (m_o hA _ _) (by rfl) ?_
    refine y_iconst E dX3_remembers_14 ?_
    refine y_iadd E dX3_remembers_15 ?_
    refine y_bipush E dX3_remembers_16 (by decide) ?_
    refine y_irem E dX3_remembers_18 (by omega) (by omega) ?_
    refine y_put E dX3_remembers_19 fl_X3_70_X3 fw_X3_10 rfl (by rfl) (m_o hA _ _) (Nat.le_of_ble_eq_true rfl) ?_
    refine y_heap (m_p10 hA) ?_
    first | refine y_ald_n E dX3_remembers_22 (by rfl) ?_ | refine y_aload_n E dX3_remembers_22 (by rfl) ?_
    refine y_dup E dX3_remembers_23 rfl ?_
    refine y_get E dX3_remembers_24 fl_X3_67_X3 (m_o hA _ _) (by rfl) ?_
    try simp (decide := true) only [upN_s, upN_n, upN_upN, upN_id]
    refine y_iconst E dX3_remembers_27 ?_
    refine y_isub E dX3_remembers_28 ?_
    refine y_put E dX3_remembers_29 fl_X3_67_X3 fw_X3_9 rfl (by rfl) (m_o hA _ _) (Nat.le_of_ble_eq_true rfl) ?_
    refine y_heap (m_p9 hA) ?_
    have c0 : rch T = 7 ∨ (rch T = T 9 0 ∧ rch T ≠ 8) := by unfold rch; split <;> omega
    have f0 : 0 ≤ rfc T 0 ∧ rfc T 0 ≤ 7 := by
      unfold rfc
      split
      all_goals first | exact hf | (show 0 ≤ (T 10 0 + 1) % 8 ∧ (T 10 0 + 1) % 8 ≤ 7; omega)
    first
      | exact from32 T rfl rfl (by unfold rfc; rw [if_neg h6]) (by unfold rch; rw [if_neg h6]) f0.1 (by omega) (by unfold remT; rw [show rfc T = T 10 from by unfold rfc; rw [if_neg h6], upN_id]) f0.2 (by omega)
      | refine from32 (upN (upN T 10 (fun _ => (T 10 0 + 1) % 8)) 9 (fun _ => T 9 0 - 1)) rfl rfl (by unfold rfc; rw [if_pos h6]; rfl) (by unfold rch; rw [if_pos h6]; show T 9 0 - 1 = 7; omega) f0.1 (by omega) ?_ f0.2 (by omega)
        unfold remT
        rw [show rfc T = fun _ => (T 10 0 + 1) % 8 from by unfold rfc; rw [if_pos h6]]
        funext j
        by_cases a : j = 9
        · simp [upN, a]
        · simp [upN, a]
theorem m_settles (hA : mA A) (hS : SH (T 5)) (hU : UT (T 5)) : Ct_X3_settles Γ 7 0 0 [.ref (A 0)] (mH A T G) (fun v G' => v = none ∧ G' = mH A (upN T 5 (stlS (T 5))) G) noX := by
  refine y_start (lv0 := [some (.ref (A 0)), none]) (nm := "settles") (own := RX3) (by decide +kernel) rfl rfl (by exact Nat.le_of_ble_eq_true rfl) (by rfl) ?_
  intro Z Q E F
  have hS1 := hS.nt
  have ph2 : ∀ (n : Nat) (x : Int → Int), SH x → UT x → litN x ≤ n → stlF n x = stlS (T 5) → Y Γ Z 0 0 Q (mH A (upN T 5 x) G) 65 [some (.ref (A 0)), some (.int (iI (misS x)))] [] := by
    intro n
    induction n with
    | zero =>
      intro x hx hu hl hfin
      have hm := mis_lit0 hx (by omega)
      have hb := misS_b hx
      refine y_iload_n E dX3_settles_65 (by rfl) ?_
      refine y_if_lt (tgt := 98) E dX3_settles_66 (by decide) (by omega) (fun _ => ?_) (fun h => by omega)
      refine y_return E F rfl dX3_settles_98 (by omega) (by omega) ⟨rfl, by rw [← hfin]; rfl⟩
    | succ n ih =>
      intro x hx hu hl hfin
      have hb := misS_b hx
      have hnt := hx.nt
      have hs := fun h : 0 ≤ misS x => stp2_ok hx hu h
      refine y_iload_n E dX3_settles_65 (by rfl) ?_
      refine y_if_lt (tgt := 98) E dX3_settles_66 (by decide) (by omega) (fun h66 => ?_) (fun h66 => ?_)
      · refine y_return E F rfl dX3_settles_98 (by omega) (by omega) ⟨rfl, by rw [← hfin]; simp only [stlF]; rw [if_pos (by omega)]⟩
      · first | refine y_ald_n E dX3_settles_69 (by rfl) ?_ | refine y_aload_n E dX3_settles_69 (by rfl) ?_
        refine y_get E dX3_settles_70 fl_X3_13_X3 (m_o hA _ _) (by rfl) ?_
        refine y_iload_n E dX3_settles_73 (by rfl) ?_
        refine y_iconst E dX3_settles_74 ?_
        refine y_callS E dX3_settles_75 lk_X3_73 (m_towerAt) (by rfl) (by decide) (by omega) (by omega) rfl (Nat.le_of_ble_eq_true rfl) ?_ (fun _ _ _ h => h.elim)
        rintro _ _ ⟨rfl, rfl⟩
        refine y_iconst E dX3_settles_78 ?_
        refine y_iast E dX3_settles_79 (m_r5 hA _ _) (by omega) ?_
        refine y_heap (m_w5 hA) ?_
        try simp (decide := true) only [upN_s, upN_n, upN_upN, upN_id]
        first | refine y_ald_n E dX3_settles_80 (by rfl) ?_ | refine y_aload_n E dX3_settles_80 (by rfl) ?_
        refine y_get E dX3_settles_81 fl_X3_13_X3 (m_o hA _ _) (by rfl) ?_
        refine y_iconst E dX3_settles_84 ?_
        refine y_dup2 E dX3_settles_85 rfl rfl ?_
        refine y_iald E dX3_settles_86 (m_r5 hA _ _) (by omega) ?_
        try simp (decide := true) only [upN_s, upN_n, upN_upN, upN_id]
        rw [upI_n _ (by omega)]
        refine y_iconst E dX3_settles_87 ?_
        refine y_iadd E dX3_settles_88 ?_
        refine y_iast E dX3_settles_89 (m_r5 hA _ _) (by omega) ?_
        refine y_heap (m_w5 hA) ?_
        try simp (decide := true) only [upN_s, upN_n, upN_upN, upN_id]
        refine y_heap (show _ = mH A (upN T 5 (stp2 x)) G from rfl) ?_
        first | refine y_ald_n E dX3_settles_90 (by rfl) ?_ | refine y_aload_n E dX3_settles_90 (by rfl) ?_
        refine y_callV E dX3_settles_91 lk_X3_116 (m_mistakenOne hA (T := upN T 5 (stp2 x)) (hs (by omega)).1 (hs (by omega)).2.1) (by rfl) (m_o hA _ _) rfl (by decide) (by omega) (by omega) rfl (Nat.le_of_ble_eq_true rfl) ?_ (fun _ _ _ h => h.elim)
        rintro _ _ ⟨rfl, rfl⟩
        try simp (decide := true) only [upN_s, upN_n, upN_upN, upN_id]
        refine y_istore_n (j := 1) E dX3_settles_94 rfl (Nat.le_of_ble_eq_true rfl) ?_
        refine y_goto (tgt := 65) E dX3_settles_95 (by decide) ?_
        exact ih (stp2 x) (hs (by omega)).1 (hs (by omega)).2.1 (by have := (hs (by omega)).2.2.2; omega) (by rw [← hfin]; simp only [stlF]; rw [if_neg (by omega)])
  have ph1 : ∀ i : Int, ∀ x : Int → Int, x = itI st1 i (T 5) → 0 ≤ i → i ≤ T 5 10 → Y Γ Z 0 0 Q (mH A (upN T 5 x) G) 2 [some (.ref (A 0)), some (.int (iI i))] [] := by
    refine loopDown (T 5 10) ?_
    intro i ih x hxe h0 h1
    have hxa := it1_ok hS i h0 (by omega)
    rw [← hxe] at hxa
    obtain ⟨hx, hxk⟩ := hxa
    have hx10 : x 10 = T 5 10 := hxk 10 (by omega) (fun t a b => by omega)
    have hu : UT x := UT_c hx10 (fun t a b => ⟨hxk _ (by omega) (fun s c d => by omega), hxk _ (by omega) (fun s c d => by omega)⟩) hU
    have hp := fun h : i < 8 => hx.pow h0 h
    refine y_iload_n E dX3_settles_2 (by rfl) ?_
    first | refine y_ald_n E dX3_settles_3 (by rfl) ?_ | refine y_aload_n E dX3_settles_3 (by rfl) ?_
    refine y_get E dX3_settles_4 fl_X3_13_X3 (m_o hA _ _) (by rfl) ?_
    refine y_bipush E dX3_settles_7 (by decide) ?_
    refine y_iald E dX3_settles_9 (m_r5 hA _ _) (by omega) ?_
    try simp (decide := true) only [upN_s, upN_n, upN_upN, upN_id]
    refine y_icmp_ge (tgt := 60) E dX3_settles_10 (by decide) (by omega) (by omega) (fun h10 => ?_) (fun h10 => ?_)
    · first | refine y_ald_n E dX3_settles_60 (by rfl) ?_ | refine y_aload_n E dX3_settles_60 (by rfl) ?_
      refine y_callV E dX3_settles_61 lk_X3_116 (m_mistakenOne hA (T := upN T 5 x) ?_ ?_) (by rfl) (m_o hA _ _) rfl (by decide) (by omega) (by omega) rfl (Nat.le_of_ble_eq_true rfl) ?_ (fun _ _ _ h => h.elim)
      · exact hx
      · exact hu
      rintro _ _ ⟨rfl, rfl⟩
      try simp (decide := true) only [upN_s, upN_n, upN_upN, upN_id]
      refine y_istore_n (j := 1) E dX3_settles_64 rfl (Nat.le_of_ble_eq_true rfl) ?_
      have e : x = stl1 (T 5) := by rw [hxe, show i = T 5 10 by omega]; rfl
      exact ph2 8 x hx hu (by have := hx.lit; omega) (by rw [e]; rfl)
    · first | refine y_ald_n E dX3_settles_13 (by rfl) ?_ | refine y_aload_n E dX3_settles_13 (by rfl) ?_
      refine y_iload_n E dX3_settles_14 (by rfl) ?_
      refine y_callV E dX3_settles_15 lk_X3_109 (m_isLit hA (T := upN T 5 x) ?_ ?_) (by rfl) (m_o hA _ _) rfl (by decide) (by omega) (by omega) rfl (Nat.le_of_ble_eq_true rfl) ?_ (fun _ _ _ h => h.elim)
      · exact hx
      · omega
      rintro _ _ ⟨rfl, rfl⟩
      try simp (decide := true) only [upN_s, upN_n, upN_upN, upN_id]
      refine y_ifd_eq (tgt := 54) E dX3_settles_18 (by decide) (fun h18 => ?_) (fun h18 => ?_)
      · refine y_iinc E dX3_settles_54 (by rfl) ?_
        refine y_goto (tgt := 2) E dX3_settles_57 (by decide) ?_
        first
          | exact ih (by omega) _ (by rw [itI_s h0, ← hxe]; unfold st1; rw [if_pos (by omega)]) (by omega) (by omega)
          | exact ih (by omega) _ (by rw [itI_s h0, ← hxe]; unfold st1; rw [if_neg (by omega)]) (by omega) (by omega)
      · first | refine y_ald_n E dX3_settles_21 (by rfl) ?_ | refine y_aload_n E dX3_settles_21 (by rfl) ?_
        refine y_iload_n E dX3_settles_22 (by rfl) ?_
        refine y_callV E dX3_settles_23 lk_X3_90 (m_powerOf hA (T := upN T 5 x) ?_ ?_) (by rfl) (m_o hA _ _) rfl (by decide) (by omega) (by omega) rfl (Nat.le_of_ble_eq_true rfl) ?_ (fun _ _ _ h => h.elim)
        · exact hx
        · omega
        rintro _ _ ⟨rfl, rfl⟩
        try simp (decide := true) only [upN_s, upN_n, upN_upN, upN_id]
        have hp := hp (by omega)
        refine y_iconst E dX3_settles_26 ?_
        refine y_icmp_lt (tgt := 33) E dX3_settles_27 (by decide) (by omega) (by omega) (fun h27 => ?_) (fun h27 => ?_)
        · first | refine y_ald_n E dX3_settles_33 (by rfl) ?_ | refine y_aload_n E dX3_settles_33 (by rfl) ?_
          refine y_get E dX3_settles_34 fl_X3_13_X3 (m_o hA _ _) (by rfl) ?_
          refine y_iload_n E dX3_settles_37 (by rfl) ?_
          refine y_iconst E dX3_settles_38 ?_
          refine y_callS E dX3_settles_39 lk_X3_73 (m_towerAt) (by rfl) (by decide) (by omega) (by omega) rfl (Nat.le_of_ble_eq_true rfl) ?_ (fun _ _ _ h => h.elim)
          rintro _ _ ⟨rfl, rfl⟩
          refine y_iconst E dX3_settles_42 ?_
          refine y_iast E dX3_settles_43 (m_r5 hA _ _) (by omega) ?_
          refine y_heap (m_w5 hA) ?_
          try simp (decide := true) only [upN_s, upN_n, upN_upN, upN_id]
          first | refine y_ald_n E dX3_settles_44 (by rfl) ?_ | refine y_aload_n E dX3_settles_44 (by rfl) ?_
          refine y_get E dX3_settles_45 fl_X3_13_X3 (m_o hA _ _) (by rfl) ?_
          refine y_iconst E dX3_settles_48 ?_
          refine y_dup2 E dX3_settles_49 rfl rfl ?_
          refine y_iald E dX3_settles_50 (m_r5 hA _ _) (by omega) ?_
          try simp (decide := true) only [upN_s, upN_n, upN_upN, upN_id]
          rw [upI_n _ (by omega)]
          refine y_iconst E dX3_settles_51 ?_
          refine y_iadd E dX3_settles_52 ?_
          refine y_iast E dX3_settles_53 (m_r5 hA _ _) (by omega) ?_
          refine y_heap (m_w5 hA) ?_
          try simp (decide := true) only [upN_s, upN_n, upN_upN, upN_id]
          refine y_iinc E dX3_settles_54 (by rfl) ?_
          refine y_goto (tgt := 2) E dX3_settles_57 (by decide) ?_
          first
            | exact ih (by omega) _ (by rw [itI_s h0, ← hxe]; unfold st1; rw [if_pos (by omega)]) (by omega) (by omega)
            | exact ih (by omega) _ (by rw [itI_s h0, ← hxe]; unfold st1; rw [if_neg (by omega)]) (by omega) (by omega)
        · refine y_goto (tgt := 54) E dX3_settles_30 (by decide) ?_
          refine y_iinc E dX3_settles_54 (by rfl) ?_
          refine y_goto (tgt := 2) E dX3_settles_57 (by decide) ?_
          first
            | exact ih (by omega) _ (by rw [itI_s h0, ← hxe]; unfold st1; rw [if_pos (by omega)]) (by omega) (by omega)
            | exact ih (by omega) _ (by rw [itI_s h0, ← hxe]; unfold st1; rw [if_neg (by omega)]) (by omega) (by omega)
  refine y_iconst E dX3_settles_0 ?_
  refine y_istore_n (j := 1) E dX3_settles_1 rfl (Nat.le_of_ble_eq_true rfl) ?_
  refine y_heap (show _ = mH A (upN T 5 (T 5)) G from by rw [upN_id]) (ph1 0 (T 5) (itI_0 _ _).symm (by omega) (by omega))
theorem m_isDone (hA : mA A) (hS : SH (T 5)) (hU : UT (T 5)) (hc : 0 ≤ T 9 0 ∧ T 9 0 ≤ 8) (hf : 0 ≤ T 10 0 ∧ T 10 0 ≤ 7) : Ct_X3_isDone Γ 8 0 0 [.ref (A 0)] (mH A T G) (fun v G' => v = none ∧ G' = mH A (remT (upN T 5 (stlS (T 5)))) G) noX := by
  refine y_start (lv0 := [some (.ref (A 0))]) (nm := "isDone") (own := RX3) (by decide +kernel) rfl rfl (by exact Nat.le_of_ble_eq_true rfl) (by rfl) ?_
  intro Z Q E F
  first | refine y_ald_n E dX3_isDone_0 (by rfl) ?_ | refine y_aload_n E dX3_isDone_0 (by rfl) ?_
  refine y_callV E dX3_isDone_1 lk_X3_120 (m_settles hA ?_ ?_) (by rfl) (m_o hA _ _) rfl (by decide) (by omega) (by omega) rfl (Nat.le_of_ble_eq_true rfl) ?_ (fun _ _ _ h => h.elim)
  · exact hS
  · exact hU
  rintro _ _ ⟨rfl, rfl⟩
  try simp (decide := true) only [upN_s, upN_n, upN_upN, upN_id]
  first | refine y_ald_n E dX3_isDone_4 (by rfl) ?_ | refine y_aload_n E dX3_isDone_4 (by rfl) ?_
  refine y_callV E dX3_isDone_5 lk_X3_123 (m_remembers hA ?_ ?_) (by rfl) (m_o hA _ _) rfl (by decide) (by omega) (by omega) rfl (Nat.le_of_ble_eq_true rfl) ?_ (fun _ _ _ h => h.elim)
  · exact hc
  · exact hf
  rintro _ _ ⟨rfl, rfl⟩
  try simp (decide := true) only [upN_s, upN_n, upN_upN, upN_id]
  refine y_return E F rfl dX3_isDone_8 (by omega) (by omega) ⟨rfl, rfl⟩
/-- behind a refusal -/
def refT (T : Nat → Int → Int) (c : Int) : Nat → Int → Int := upN (upN (upN T 4 (upI (upI (T 4) 0 (T 1 0)) 1 (T 2 0))) 3 (fun _ => 1)) 0 (fun _ => c)
theorem m_refuses (hA : mA A) {c : Int} : Ct_X3_refuses Γ 2 0 0 [.ref (A 0), .int (iI (c))] (mH A T G) (fun v G' => v = some (.int (iI (0))) ∧ G' = mH A (refT T c) G) noX := by
  refine y_start (lv0 := [some (.ref (A 0)), some (.int (iI (c)))]) (nm := "refuses") (own := RX3) (by decide +kernel) rfl rfl (by exact Nat.le_of_ble_eq_true rfl) (by rfl) ?_
  intro Z Q E F
  first | refine y_ald_n E dX3_refuses_0 (by rfl) ?_ | refine y_aload_n E dX3_refuses_0 (by rfl) ?_
  refine y_get E dX3_refuses_1 fl_X3_7_X3 (m_o hA _ _) (by rfl) ?_
  refine y_iconst E dX3_refuses_4 ?_
  first | refine y_ald_n E dX3_refuses_5 (by rfl) ?_ | refine y_aload_n E dX3_refuses_5 (by rfl) ?_
  refine y_get E dX3_refuses_6 fl_X3_54_X3 (m_o hA _ _) (by rfl) ?_
  refine y_iast E dX3_refuses_9 (m_r4 hA _ _) (by omega) ?_
  refine y_heap (m_w4 hA) ?_
  try simp (decide := true) only [upN_s, upN_n, upN_upN, upN_id]
  first | refine y_ald_n E dX3_refuses_10 (by rfl) ?_ | refine y_aload_n E dX3_refuses_10 (by rfl) ?_
  refine y_get E dX3_refuses_11 fl_X3_7_X3 (m_o hA _ _) (by rfl) ?_
  refine y_iconst E dX3_refuses_14 ?_
  first | refine y_ald_n E dX3_refuses_15 (by rfl) ?_ | refine y_aload_n E dX3_refuses_15 (by rfl) ?_
  refine y_get E dX3_refuses_16 fl_X3_57_X3 (m_o hA _ _) (by rfl) ?_
  try simp (decide := true) only [upN_s, upN_n, upN_upN, upN_id]
  refine y_iast E dX3_refuses_19 (m_r4 hA _ _) (by omega) ?_
  refine y_heap (m_w4 hA) ?_
  try simp (decide := true) only [upN_s, upN_n, upN_upN, upN_id]
  first | refine y_ald_n E dX3_refuses_20 (by rfl) ?_ | refine y_aload_n E dX3_refuses_20 (by rfl) ?_
  refine y_iconst E dX3_refuses_21 ?_
  refine y_put E dX3_refuses_22 fl_X3_60_X3 fw_X3_3 rfl (by rfl) (m_o hA _ _) (Nat.le_of_ble_eq_true rfl) ?_
  refine y_heap (m_p3 hA) ?_
  first | refine y_ald_n E dX3_refuses_25 (by rfl) ?_ | refine y_aload_n E dX3_refuses_25 (by rfl) ?_
  refine y_iload_n E dX3_refuses_26 (by rfl) ?_
  refine y_callV E dX3_refuses_27 lk_X3_63 (m_fails hA) (by rfl) (m_o hA _ _) rfl (by decide) (by omega) (by omega) rfl (Nat.le_of_ble_eq_true rfl) ?_ (fun _ _ _ h => h.elim)
  rintro _ _ ⟨rfl, rfl⟩
  try simp (decide := true) only [upN_s, upN_n, upN_upN, upN_id]
  refine y_ireturn E F rfl rfl dX3_refuses_30 (by omega) (by omega) ⟨(rI (by rfl)), rfl⟩
theorem m_leavesStore (hA : mA A) {p : Int} (hp : 0 ≤ p ∧ p < T 5 12) (hn : T 5 12 ≤ 12) : Ct_X3_leavesStore Γ 1 0 0 [.ref (A 0), .int (iI (p))] (mH A T G) (fun v G' => v = none ∧ G' = mH A (upN T 5 (lvS (T 5) p)) G) noX := by
  refine y_start (lv0 := [some (.ref (A 0)), some (.int (iI (p))), none]) (nm := "leavesStore") (own := RX3) (by decide +kernel) rfl rfl (by exact Nat.le_of_ble_eq_true rfl) (by rfl) ?_
  intro Z Q E F
  have loop : ∀ i : Int, p ≤ i → i ≤ T 5 12 - 1 → Y Γ Z 0 0 Q (mH A (upN T 5 (shf (T 5) p i)) G) 2 [some (.ref (A 0)), some (.int (iI p)), some (.int (iI i))] [] := by
    refine loopDown (T 5 12) ?_
    intro i ih h0 h1
    refine y_iload_n E dX3_leavesStore_2 (by rfl) ?_
    refine y_iconst E dX3_leavesStore_3 ?_
    refine y_iadd E dX3_leavesStore_4 ?_
    first | refine y_ald_n E dX3_leavesStore_5 (by rfl) ?_ | refine y_aload_n E dX3_leavesStore_5 (by rfl) ?_
    refine y_get E dX3_leavesStore_6 fl_X3_13_X3 (m_o hA _ _) (by rfl) ?_
    refine y_bipush E dX3_leavesStore_9 (by decide) ?_
    refine y_iald E dX3_leavesStore_11 (m_r5 hA _ _) (by omega) ?_
    try simp (decide := true) only [upN_s, upN_n, upN_upN, upN_id]
    rw [shf_n (by omega)]
    refine y_icmp_ge (tgt := 41) E dX3_leavesStore_12 (by decide) (by omega) (by omega) (fun h12 => ?_) (fun h12 => ?_)
    · first | refine y_ald_n E dX3_leavesStore_41 (by rfl) ?_ | refine y_aload_n E dX3_leavesStore_41 (by rfl) ?_
      refine y_get E dX3_leavesStore_42 fl_X3_13_X3 (m_o hA _ _) (by rfl) ?_
      refine y_bipush E dX3_leavesStore_45 (by decide) ?_
      refine y_dup2 E dX3_leavesStore_47 rfl rfl ?_
      refine y_iald E dX3_leavesStore_48 (m_r5 hA _ _) (by omega) ?_
      try simp (decide := true) only [upN_s, upN_n, upN_upN, upN_id]
      rw [shf_n (by omega)]
      refine y_iconst E dX3_leavesStore_49 ?_
      refine y_isub E dX3_leavesStore_50 ?_
      refine y_iast E dX3_leavesStore_51 (m_r5 hA _ _) (by omega) ?_
      refine y_heap (m_w5 hA) ?_
      try simp (decide := true) only [upN_s, upN_n, upN_upN, upN_id]
      first | refine y_ald_n E dX3_leavesStore_52 (by rfl) ?_ | refine y_aload_n E dX3_leavesStore_52 (by rfl) ?_
      refine y_get E dX3_leavesStore_53 fl_X3_13_X3 (m_o hA _ _) (by rfl) ?_
      refine y_bipush E dX3_leavesStore_56 (by decide) ?_
      first | refine y_ald_n E dX3_leavesStore_58 (by rfl) ?_ | refine y_aload_n E dX3_leavesStore_58 (by rfl) ?_
      refine y_get E dX3_leavesStore_59 fl_X3_13_X3 (m_o hA _ _) (by rfl) ?_
      refine y_bipush E dX3_leavesStore_62 (by decide) ?_
      refine y_iald E dX3_leavesStore_64 (m_r5 hA _ _) (by omega) ?_
      try simp (decide := true) only [upN_s, upN_n, upN_upN, upN_id]
      rw [upI_s]
      refine y_iadd E dX3_leavesStore_65 ?_
      refine y_iconst E dX3_leavesStore_66 ?_
      refine y_iast E dX3_leavesStore_67 (m_r5 hA _ _) (by omega) ?_
      refine y_heap (m_w5 hA) ?_
      try simp (decide := true) only [upN_s, upN_n, upN_upN, upN_id]
      refine y_return E F rfl dX3_leavesStore_68 (by omega) (by omega) ⟨rfl, by unfold lvS; rw [show i = T 5 12 - 1 by omega]⟩
    · first | refine y_ald_n E dX3_leavesStore_15 (by rfl) ?_ | refine y_aload_n E dX3_leavesStore_15 (by rfl) ?_
      refine y_get E dX3_leavesStore_16 fl_X3_13_X3 (m_o hA _ _) (by rfl) ?_
      refine y_bipush E dX3_leavesStore_19 (by decide) ?_
      refine y_iload_n E dX3_leavesStore_21 (by rfl) ?_
      refine y_iadd E dX3_leavesStore_22 ?_
      first | refine y_ald_n E dX3_leavesStore_23 (by rfl) ?_ | refine y_aload_n E dX3_leavesStore_23 (by rfl) ?_
      refine y_get E dX3_leavesStore_24 fl_X3_13_X3 (m_o hA _ _) (by rfl) ?_
      refine y_bipush E dX3_leavesStore_27 (by decide) ?_
      refine y_iload_n E dX3_leavesStore_29 (by rfl) ?_
      refine y_iadd E dX3_leavesStore_30 ?_
      refine y_iconst E dX3_leavesStore_31 ?_
      refine y_iadd E dX3_leavesStore_32 ?_
      refine y_iald E dX3_leavesStore_33 (m_r5 hA _ _) (by omega) ?_
      try simp (decide := true) only [upN_s, upN_n, upN_upN, upN_id]
      rw [shf_n (by omega)]
      refine y_iast E dX3_leavesStore_34 (m_r5 hA _ _) (by omega) ?_
      refine y_heap (m_w5 hA) ?_
      try simp (decide := true) only [upN_s, upN_n, upN_upN, upN_id]
      refine y_iinc E dX3_leavesStore_35 (by rfl) ?_
      refine y_goto (tgt := 2) E dX3_leavesStore_38 (by decide) ?_
      rw [shf_s h0]
      exact ih (by omega) (by omega) (by omega)
  refine y_iload_n E dX3_leavesStore_0 (by rfl) ?_
  refine y_istore_n (j := 2) E dX3_leavesStore_1 rfl (Nat.le_of_ble_eq_true rfl) ?_
  refine y_heap (show _ = mH A (upN T 5 (shf (T 5) p p)) G from by rw [shf_0, upN_id]) (loop p (by omega) (by omega))
theorem m_stores (hA : mA A) {l : Int} (hl : 0 ≤ l ∧ l < 12) (hn : 0 ≤ T 5 12 ∧ T 5 12 < 12) : Ct_X3_stores Γ 2 0 0 [.ref (A 0), .int (iI (l))] (mH A T G) (fun v G' => v = none ∧ G' = mH A (upN T 5 (stoS (T 5) l)) G) noX := by
  refine y_start (lv0 := [some (.ref (A 0)), some (.int (iI (l)))]) (nm := "stores") (own := RX3) (by decide +kernel) rfl rfl (by exact Nat.le_of_ble_eq_true rfl) (by rfl) ?_
  intro Z Q E F
  first | refine y_ald_n E dX3_stores_0 (by rfl) ?_ | refine y_aload_n E dX3_stores_0 (by rfl) ?_
  refine y_get E dX3_stores_1 fl_X3_13_X3 (m_o hA _ _) (by rfl) ?_
  refine y_bipush E dX3_stores_4 (by decide) ?_
  first | refine y_ald_n E dX3_stores_6 (by rfl) ?_ | refine y_aload_n E dX3_stores_6 (by rfl) ?_
  refine y_get E dX3_stores_7 fl_X3_13_X3 (m_o hA _ _) (by rfl) ?_
  refine y_bipush E dX3_stores_10 (by decide) ?_
  refine y_iald E dX3_stores_12 (m_r5 hA _ _) (by omega) ?_
  refine y_iadd E dX3_stores_13 ?_
  refine y_iload_n E dX3_stores_14 (by rfl) ?_
  refine y_iast E dX3_stores_15 (m_r5 hA _ _) (by omega) ?_
  refine y_heap (m_w5 hA) ?_
  try simp (decide := true) only [upN_s, upN_n, upN_upN, upN_id]
  first | refine y_ald_n E dX3_stores_16 (by rfl) ?_ | refine y_aload_n E dX3_stores_16 (by rfl) ?_
  refine y_get E dX3_stores_17 fl_X3_13_X3 (m_o hA _ _) (by rfl) ?_
  refine y_bipush E dX3_stores_20 (by decide) ?_
  refine y_dup2 E dX3_stores_22 rfl rfl ?_
  refine y_iald E dX3_stores_23 (m_r5 hA _ _) (by omega) ?_
  try simp (decide := true) only [upN_s, upN_n, upN_upN, upN_id]
  rw [upI_n _ (by omega)]
  refine y_iconst E dX3_stores_24 ?_
  refine y_iadd E dX3_stores_25 ?_
  refine y_iast E dX3_stores_26 (m_r5 hA _ _) (by omega) ?_
  refine y_heap (m_w5 hA) ?_
  try simp (decide := true) only [upN_s, upN_n, upN_upN, upN_id]
  first | refine y_ald_n E dX3_stores_27 (by rfl) ?_ | refine y_aload_n E dX3_stores_27 (by rfl) ?_
  refine y_get E dX3_stores_28 fl_X3_13_X3 (m_o hA _ _) (by rfl) ?_
  refine y_iload_n E dX3_stores_31 (by rfl) ?_
  refine y_iconst E dX3_stores_32 ?_
  refine y_callS E dX3_stores_33 lk_X3_84 (m_lensAt) (by rfl) (by decide) (by omega) (by omega) rfl (Nat.le_of_ble_eq_true rfl) ?_ (fun _ _ _ h => h.elim)
  rintro _ _ ⟨rfl, rfl⟩
  refine y_iconst E dX3_stores_36 ?_
  refine y_iast E dX3_stores_37 (m_r5 hA _ _) (by omega) ?_
  refine y_heap (m_w5 hA) ?_
  try simp (decide := true) only [upN_s, upN_n, upN_upN, upN_id]
  refine y_return E F rfl dX3_stores_38 (by omega) (by omega) ⟨rfl, rfl⟩
theorem m_fits (hA : mA A) (hS : SH (T 5)) {t : Int} (ht : 0 ≤ t ∧ t < 8) (hn : 0 < T 5 12) : Ct_X3_fits Γ 3 0 0 [.ref (A 0), .int (iI (t))] (mH A T G) (fun v G' => v = some (.int (iI (T 5 13))) ∧ G' = mH A (upN T 5 (fitS (T 5) t)) G) noX := by
  refine y_start (lv0 := [some (.ref (A 0)), some (.int (iI (t))), none]) (nm := "fits") (own := RX3) (by decide +kernel) rfl rfl (by exact Nat.le_of_ble_eq_true rfl) (by rfl) ?_
  intro Z Q E F
  have hS1 := hS.ns
  have hS2 := hS.t ht.1 ht.2
  have hS3 := hS.sto (k := 0) (by omega) (by omega)
  simp only [Int.add_zero] at hS3
  have e12 := lvS_12 (w := T 5) (p := 0) hn
  have e3 : tw (lvS (T 5) 0) t 3 = tw (T 5) t 3 := lvS_n (by omega) (by omega)
  first | refine y_ald_n E dX3_fits_0 (by rfl) ?_ | refine y_aload_n E dX3_fits_0 (by rfl) ?_
  refine y_get E dX3_fits_1 fl_X3_13_X3 (m_o hA _ _) (by rfl) ?_
  refine y_bipush E dX3_fits_4 (by decide) ?_
  refine y_iald E dX3_fits_6 (m_r5 hA _ _) (by omega) ?_
  refine y_istore_n (j := 2) E dX3_fits_7 rfl (Nat.le_of_ble_eq_true rfl) ?_
  first | refine y_ald_n E dX3_fits_8 (by rfl) ?_ | refine y_aload_n E dX3_fits_8 (by rfl) ?_
  refine y_iconst E dX3_fits_9 ?_
  refine y_callV E dX3_fits_10 lk_X3_161 (m_leavesStore hA ?_ ?_) (by rfl) (m_o hA _ _) rfl (by decide) (by omega) (by omega) rfl (Nat.le_of_ble_eq_true rfl) ?_ (fun _ _ _ h => h.elim)
  · omega
  · omega
  rintro _ _ ⟨rfl, rfl⟩
  try simp (decide := true) only [upN_s, upN_n, upN_upN, upN_id]
  first | refine y_ald_n E dX3_fits_13 (by rfl) ?_ | refine y_aload_n E dX3_fits_13 (by rfl) ?_
  refine y_iload_n E dX3_fits_14 (by rfl) ?_
  refine y_iconst E dX3_fits_15 ?_
  refine y_callV E dX3_fits_16 lk_X3_81 (m_ofTower hA ?_ ?_) (by rfl) (m_o hA _ _) rfl (by decide) (by omega) (by omega) rfl (Nat.le_of_ble_eq_true rfl) ?_ (fun _ _ _ h => h.elim)
  · omega
  · omega
  rintro _ _ ⟨rfl, rfl⟩
  try simp (decide := true) only [upN_s, upN_n, upN_upN, upN_id]
  rw [e3]
  refine y_if_lt (tgt := 32) E dX3_fits_19 (by decide) (by omega) (fun h19 => ?_) (fun h19 => ?_)
  · refine y_heap (show _ = mH A (upN T 5 (fit0 (T 5) t)) G from by unfold fit0; first | rw [if_pos h19] | rw [if_neg (by omega)]) ?_
    first | refine y_ald_n E dX3_fits_32 (by rfl) ?_ | refine y_aload_n E dX3_fits_32 (by rfl) ?_
    refine y_get E dX3_fits_33 fl_X3_13_X3 (m_o hA _ _) (by rfl) ?_
    refine y_iload_n E dX3_fits_36 (by rfl) ?_
    refine y_iconst E dX3_fits_37 ?_
    refine y_callS E dX3_fits_38 lk_X3_73 (m_towerAt) (by rfl) (by decide) (by omega) (by omega) rfl (Nat.le_of_ble_eq_true rfl) ?_ (fun _ _ _ h => h.elim)
    rintro _ _ ⟨rfl, rfl⟩
    refine y_iload_n E dX3_fits_41 (by rfl) ?_
    refine y_iast E dX3_fits_42 (m_r5 hA _ _) (by omega) ?_
    refine y_heap (m_w5 hA) ?_
    try simp (decide := true) only [upN_s, upN_n, upN_upN, upN_id]
    first | refine y_ald_n E dX3_fits_43 (by rfl) ?_ | refine y_aload_n E dX3_fits_43 (by rfl) ?_
    refine y_get E dX3_fits_44 fl_X3_13_X3 (m_o hA _ _) (by rfl) ?_
    refine y_iload_n E dX3_fits_47 (by rfl) ?_
    refine y_iconst E dX3_fits_48 ?_
    refine y_callS E dX3_fits_49 lk_X3_84 (m_lensAt) (by rfl) (by decide) (by omega) (by omega) rfl (Nat.le_of_ble_eq_true rfl) ?_ (fun _ _ _ h => h.elim)
    rintro _ _ ⟨rfl, rfl⟩
    refine y_iload_n E dX3_fits_52 (by rfl) ?_
    refine y_iast E dX3_fits_53 (m_r5 hA _ _) (by omega) ?_
    refine y_heap (m_w5 hA) ?_
    try simp (decide := true) only [upN_s, upN_n, upN_upN, upN_id]
    refine y_iload_n E dX3_fits_54 (by rfl) ?_
    refine y_ireturn E F rfl rfl dX3_fits_55 (by omega) (by omega) ⟨(rI (by rfl)), rfl⟩
  · first | refine y_ald_n E dX3_fits_22 (by rfl) ?_ | refine y_aload_n E dX3_fits_22 (by rfl) ?_
    first | refine y_ald_n E dX3_fits_23 (by rfl) ?_ | refine y_aload_n E dX3_fits_23 (by rfl) ?_
    refine y_iload_n E dX3_fits_24 (by rfl) ?_
    refine y_iconst E dX3_fits_25 ?_
    refine y_callV E dX3_fits_26 lk_X3_81 (m_ofTower hA ?_ ?_) (by rfl) (m_o hA _ _) rfl (by decide) (by omega) (by omega) rfl (Nat.le_of_ble_eq_true rfl) ?_ (fun _ _ _ h => h.elim)
    · omega
    · omega
    rintro _ _ ⟨rfl, rfl⟩
    try simp (decide := true) only [upN_s, upN_n, upN_upN, upN_id]
    rw [e3]
    refine y_callV E dX3_fits_29 lk_X3_144 (m_stores hA ?_ ?_) (by rfl) (m_o hA _ _) rfl (by decide) (by omega) (by omega) rfl (Nat.le_of_ble_eq_true rfl) ?_ (fun _ _ _ h => h.elim)
    · omega
    · show 0 ≤ lvS (T 5) 0 12 ∧ lvS (T 5) 0 12 < 12; omega
    rintro _ _ ⟨rfl, rfl⟩
    try simp (decide := true) only [upN_s, upN_n, upN_upN, upN_id]
    refine y_heap (show _ = mH A (upN T 5 (fit0 (T 5) t)) G from by unfold fit0; first | rw [if_pos h19] | rw [if_neg (by omega)]) ?_
    first | refine y_ald_n E dX3_fits_32 (by rfl) ?_ | refine y_aload_n E dX3_fits_32 (by rfl) ?_
    refine y_get E dX3_fits_33 fl_X3_13_X3 (m_o hA _ _) (by rfl) ?_
    refine y_iload_n E dX3_fits_36 (by rfl) ?_
    refine y_iconst E dX3_fits_37 ?_
    refine y_callS E dX3_fits_38 lk_X3_73 (m_towerAt) (by rfl) (by decide) (by omega) (by omega) rfl (Nat.le_of_ble_eq_true rfl) ?_ (fun _ _ _ h => h.elim)
    rintro _ _ ⟨rfl, rfl⟩
    refine y_iload_n E dX3_fits_41 (by rfl) ?_
    refine y_iast E dX3_fits_42 (m_r5 hA _ _) (by omega) ?_
    refine y_heap (m_w5 hA) ?_
    try simp (decide := true) only [upN_s, upN_n, upN_upN, upN_id]
    first | refine y_ald_n E dX3_fits_43 (by rfl) ?_ | refine y_aload_n E dX3_fits_43 (by rfl) ?_
    refine y_get E dX3_fits_44 fl_X3_13_X3 (m_o hA _ _) (by rfl) ?_
    refine y_iload_n E dX3_fits_47 (by rfl) ?_
    refine y_iconst E dX3_fits_48 ?_
    refine y_callS E dX3_fits_49 lk_X3_84 (m_lensAt) (by rfl) (by decide) (by omega) (by omega) rfl (Nat.le_of_ble_eq_true rfl) ?_ (fun _ _ _ h => h.elim)
    rintro _ _ ⟨rfl, rfl⟩
    refine y_iload_n E dX3_fits_52 (by rfl) ?_
    refine y_iast E dX3_fits_53 (m_r5 hA _ _) (by omega) ?_
    refine y_heap (m_w5 hA) ?_
    try simp (decide := true) only [upN_s, upN_n, upN_upN, upN_id]
    refine y_iload_n E dX3_fits_54 (by rfl) ?_
    refine y_ireturn E F rfl rfl dX3_fits_55 (by omega) (by omega) ⟨(rI (by rfl)), rfl⟩
theorem m_breaks (hA : mA A) {t : Int} (ht : 0 ≤ t ∧ t < 8) : Ct_X3_breaks Γ 2 0 0 [.ref (A 0), .int (iI (t))] (mH A T G) (fun v G' => v = none ∧ G' = mH A (upN T 5 (brkS (T 5) t)) G) noX := by
  refine y_start (lv0 := [some (.ref (A 0)), some (.int (iI (t)))]) (nm := "breaks") (own := RX3) (by decide +kernel) rfl rfl (by exact Nat.le_of_ble_eq_true rfl) (by rfl) ?_
  intro Z Q E F
  first | refine y_ald_n E dX3_breaks_0 (by rfl) ?_ | refine y_aload_n E dX3_breaks_0 (by rfl) ?_
  refine y_get E dX3_breaks_1 fl_X3_13_X3 (m_o hA _ _) (by rfl) ?_
  refine y_iload_n E dX3_breaks_4 (by rfl) ?_
  refine y_iconst E dX3_breaks_5 ?_
  refine y_callS E dX3_breaks_6 lk_X3_73 (m_towerAt) (by rfl) (by decide) (by omega) (by omega) rfl (Nat.le_of_ble_eq_true rfl) ?_ (fun _ _ _ h => h.elim)
  rintro _ _ ⟨rfl, rfl⟩
  refine y_iconst E dX3_breaks_9 ?_
  refine y_iast E dX3_breaks_10 (m_r5 hA _ _) (by omega) ?_
  refine y_heap (m_w5 hA) ?_
  try simp (decide := true) only [upN_s, upN_n, upN_upN, upN_id]
  first | refine y_ald_n E dX3_breaks_11 (by rfl) ?_ | refine y_aload_n E dX3_breaks_11 (by rfl) ?_
  refine y_get E dX3_breaks_12 fl_X3_13_X3 (m_o hA _ _) (by rfl) ?_
  refine y_iload_n E dX3_breaks_15 (by rfl) ?_
  refine y_iconst E dX3_breaks_16 ?_
  refine y_callS E dX3_breaks_17 lk_X3_73 (m_towerAt) (by rfl) (by decide) (by omega) (by omega) rfl (Nat.le_of_ble_eq_true rfl) ?_ (fun _ _ _ h => h.elim)
  rintro _ _ ⟨rfl, rfl⟩
  refine y_iconst E dX3_breaks_20 ?_
  refine y_iast E dX3_breaks_21 (m_r5 hA _ _) (by omega) ?_
  refine y_heap (m_w5 hA) ?_
  try simp (decide := true) only [upN_s, upN_n, upN_upN, upN_id]
  refine y_return E F rfl dX3_breaks_22 (by omega) (by omega) ⟨rfl, rfl⟩
theorem m_setsPattern (hA : mA A) {t s m : Int} (ht : 0 ≤ t ∧ t < 8) : Ct_X3_setsPattern Γ 2 0 0 [.ref (A 0), .int (iI (t)), .int (iI (s)), .int (iI (m))] (mH A T G) (fun v G' => v = none ∧ G' = mH A (upN T 5 (patS (T 5) t s m)) G) noX := by
  refine y_start (lv0 := [some (.ref (A 0)), some (.int (iI (t))), some (.int (iI (s))), some (.int (iI (m)))]) (nm := "setsPattern") (own := RX3) (by decide +kernel) rfl rfl (by exact Nat.le_of_ble_eq_true rfl) (by rfl) ?_
  intro Z Q E F
  first | refine y_ald_n E dX3_setsPattern_0 (by rfl) ?_ | refine y_aload_n E dX3_setsPattern_0 (by rfl) ?_
  refine y_get E dX3_setsPattern_1 fl_X3_13_X3 (m_o hA _ _) (by rfl) ?_
  refine y_iload_n E dX3_setsPattern_4 (by rfl) ?_
  refine y_bipush E dX3_setsPattern_5 (by decide) ?_
  refine y_callS E dX3_setsPattern_7 lk_X3_73 (m_towerAt) (by rfl) (by decide) (by omega) (by omega) rfl (Nat.le_of_ble_eq_true rfl) ?_ (fun _ _ _ h => h.elim)
  rintro _ _ ⟨rfl, rfl⟩
  refine y_iload_n E dX3_setsPattern_10 (by rfl) ?_
  refine y_iast E dX3_setsPattern_11 (m_r5 hA _ _) (by omega) ?_
  refine y_heap (m_w5 hA) ?_
  try simp (decide := true) only [upN_s, upN_n, upN_upN, upN_id]
  first | refine y_ald_n E dX3_setsPattern_12 (by rfl) ?_ | refine y_aload_n E dX3_setsPattern_12 (by rfl) ?_
  refine y_get E dX3_setsPattern_13 fl_X3_13_X3 (m_o hA _ _) (by rfl) ?_
  refine y_iload_n E dX3_setsPattern_16 (by rfl) ?_
  refine y_bipush E dX3_setsPattern_17 (by decide) ?_
  refine y_callS E dX3_setsPattern_19 lk_X3_73 (m_towerAt) (by rfl) (by decide) (by omega) (by omega) rfl (Nat.le_of_ble_eq_true rfl) ?_ (fun _ _ _ h => h.elim)
  rintro _ _ ⟨rfl, rfl⟩
  refine y_iload_n E dX3_setsPattern_22 (by rfl) ?_
  refine y_iast E dX3_setsPattern_23 (m_r5 hA _ _) (by omega) ?_
  refine y_heap (m_w5 hA) ?_
  try simp (decide := true) only [upN_s, upN_n, upN_upN, upN_id]
  refine y_return E F rfl dX3_setsPattern_24 (by omega) (by omega) ⟨rfl, rfl⟩
theorem m_mayNotFit (hA : mA A) (hS : SH (T 5)) : Ct_X3_mayNotFit Γ 2 0 0 [.ref (A 0)] (mH A T G) (fun v G' => v = some (.int (iI (b2i (dB ((whyFitted (T 5)).isSome = true))))) ∧ G' = mH A (hinO T (whyFitted (T 5))) G) noX := by
  refine y_start (lv0 := [some (.ref (A 0))]) (nm := "mayNotFit") (own := RX3) (by decide +kernel) rfl rfl (by exact Nat.le_of_ble_eq_true rfl) (by rfl) ?_
  intro Z Q E F
  have hS1 := hS.ns
  first | refine y_ald_n E dX3_mayNotFit_0 (by rfl) ?_ | refine y_aload_n E dX3_mayNotFit_0 (by rfl) ?_
  refine y_get E dX3_mayNotFit_1 fl_X3_13_X3 (m_o hA _ _) (by rfl) ?_
  refine y_bipush E dX3_mayNotFit_4 (by decide) ?_
  refine y_iald E dX3_mayNotFit_6 (m_r5 hA _ _) (by omega) ?_
  refine y_if_ne (tgt := 24) E dX3_mayNotFit_7 (by decide) (by omega) (fun h7 => ?_) (fun h7 => ?_)
  · refine y_iconst E dX3_mayNotFit_24 ?_
    refine y_ireturn E F rfl rfl dX3_mayNotFit_25 (by omega) (by omega) (by first | exact absurd trivial h17 | (rw [show whyFitted (T 5) = some (8, 0) from by unfold whyFitted; rw [if_pos h7]]; exact ⟨rT rfl, rfl⟩) | (rw [show whyFitted (T 5) = none from by unfold whyFitted; rw [if_neg h7]]; exact ⟨rF (by simp), rfl⟩))
  · first | refine y_ald_n E dX3_mayNotFit_10 (by rfl) ?_ | refine y_aload_n E dX3_mayNotFit_10 (by rfl) ?_
    refine y_bipush E dX3_mayNotFit_11 (by decide) ?_
    refine y_iconst E dX3_mayNotFit_13 ?_
    refine y_callV E dX3_mayNotFit_14 lk_X3_132 (m_hinders hA) (by rfl) (m_o hA _ _) rfl (by decide) (by omega) (by omega) rfl (Nat.le_of_ble_eq_true rfl) ?_ (fun _ _ _ h => h.elim)
    rintro _ _ ⟨rfl, rfl⟩
    refine y_ifd_eq (tgt := 24) E dX3_mayNotFit_17 (by decide) (fun h17 => ?_) (fun h17 => ?_)
    · refine y_iconst E dX3_mayNotFit_24 ?_
      refine y_ireturn E F rfl rfl dX3_mayNotFit_25 (by omega) (by omega) (by first | exact absurd trivial h17 | (rw [show whyFitted (T 5) = some (8, 0) from by unfold whyFitted; rw [if_pos h7]]; exact ⟨rT rfl, rfl⟩) | (rw [show whyFitted (T 5) = none from by unfold whyFitted; rw [if_neg h7]]; exact ⟨rF (by simp), rfl⟩))
    · refine y_iconst E dX3_mayNotFit_20 ?_
      refine y_goto (tgt := 25) E dX3_mayNotFit_21 (by decide) ?_
      refine y_ireturn E F rfl rfl dX3_mayNotFit_25 (by omega) (by omega) (by first | exact absurd trivial h17 | (rw [show whyFitted (T 5) = some (8, 0) from by unfold whyFitted; rw [if_pos h7]]; exact ⟨rT rfl, rfl⟩) | (rw [show whyFitted (T 5) = none from by unfold whyFitted; rw [if_neg h7]]; exact ⟨rF (by simp), rfl⟩))
theorem m_mayNotDarken (hA : mA A) (hS : SH (T 5)) {t : Int} (ht : 0 ≤ t ∧ t < 8) : Ct_X3_mayNotDarken Γ 4 0 0 [.ref (A 0), .int (iI (t))] (mH A T G) (fun v G' => v = some (.int (iI (b2i (dB ((whyDark (T 5) t).isSome = true))))) ∧ G' = mH A (hinO T (whyDark (T 5) t)) G) noX := by
  refine y_start (lv0 := [some (.ref (A 0)), some (.int (iI (t)))]) (nm := "mayNotDarken") (own := RX3) (by decide +kernel) rfl rfl (by exact Nat.le_of_ble_eq_true rfl) (by rfl) ?_
  intro Z Q E F
  first | refine y_ald_n E dX3_mayNotDarken_0 (by rfl) ?_ | refine y_aload_n E dX3_mayNotDarken_0 (by rfl) ?_
  refine y_iload_n E dX3_mayNotDarken_1 (by rfl) ?_
  refine y_callV E dX3_mayNotDarken_2 lk_X3_109 (m_isLit hA ?_ ?_) (by rfl) (m_o hA _ _) rfl (by decide) (by omega) (by omega) rfl (Nat.le_of_ble_eq_true rfl) ?_ (fun _ _ _ h => h.elim)
  · exact hS
  · omega
  rintro _ _ ⟨rfl, rfl⟩
  refine y_ifd_ne (tgt := 21) E dX3_mayNotDarken_5 (by decide) (fun h5 => ?_) (fun h5 => ?_)
  · refine y_iconst E dX3_mayNotDarken_21 ?_
    refine y_ireturn E F rfl rfl dX3_mayNotDarken_22 (by omega) (by omega) (by first | exact absurd trivial h14 | (rw [show whyDark (T 5) t = some (4, t) from by unfold whyDark; rw [if_neg h5]]; exact ⟨rT rfl, rfl⟩) | (rw [show whyDark (T 5) t = none from by unfold whyDark; rw [if_pos h5]]; exact ⟨rF (by simp), rfl⟩))
  · first | refine y_ald_n E dX3_mayNotDarken_8 (by rfl) ?_ | refine y_aload_n E dX3_mayNotDarken_8 (by rfl) ?_
    refine y_iconst E dX3_mayNotDarken_9 ?_
    refine y_iload_n E dX3_mayNotDarken_10 (by rfl) ?_
    refine y_callV E dX3_mayNotDarken_11 lk_X3_132 (m_hinders hA) (by rfl) (m_o hA _ _) rfl (by decide) (by omega) (by omega) rfl (Nat.le_of_ble_eq_true rfl) ?_ (fun _ _ _ h => h.elim)
    rintro _ _ ⟨rfl, rfl⟩
    refine y_ifd_eq (tgt := 21) E dX3_mayNotDarken_14 (by decide) (fun h14 => ?_) (fun h14 => ?_)
    · refine y_iconst E dX3_mayNotDarken_21 ?_
      refine y_ireturn E F rfl rfl dX3_mayNotDarken_22 (by omega) (by omega) (by first | exact absurd trivial h14 | (rw [show whyDark (T 5) t = some (4, t) from by unfold whyDark; rw [if_neg h5]]; exact ⟨rT rfl, rfl⟩) | (rw [show whyDark (T 5) t = none from by unfold whyDark; rw [if_pos h5]]; exact ⟨rF (by simp), rfl⟩))
    · refine y_iconst E dX3_mayNotDarken_17 ?_
      refine y_goto (tgt := 22) E dX3_mayNotDarken_18 (by decide) ?_
      refine y_ireturn E F rfl rfl dX3_mayNotDarken_22 (by omega) (by omega) (by first | exact absurd trivial h14 | (rw [show whyDark (T 5) t = some (4, t) from by unfold whyDark; rw [if_neg h5]]; exact ⟨rT rfl, rfl⟩) | (rw [show whyDark (T 5) t = none from by unfold whyDark; rw [if_pos h5]]; exact ⟨rF (by simp), rfl⟩))
theorem m_mayNotBreak (hA : mA A) (hS : SH (T 5)) {t : Int} (ht : 0 ≤ t ∧ t < 8) : Ct_X3_mayNotBreak Γ 3 0 0 [.ref (A 0), .int (iI (t))] (mH A T G) (fun v G' => v = some (.int (iI (b2i (dB ((whyBroken (T 5) t).isSome = true))))) ∧ G' = mH A (hinO T (whyBroken (T 5) t)) G) noX := by
  refine y_start (lv0 := [some (.ref (A 0)), some (.int (iI (t)))]) (nm := "mayNotBreak") (own := RX3) (by decide +kernel) rfl rfl (by exact Nat.le_of_ble_eq_true rfl) (by rfl) ?_
  intro Z Q E F
  have hS1 := hS.t ht.1 ht.2
  first | refine y_ald_n E dX3_mayNotBreak_0 (by rfl) ?_ | refine y_aload_n E dX3_mayNotBreak_0 (by rfl) ?_
  refine y_iload_n E dX3_mayNotBreak_1 (by rfl) ?_
  refine y_iconst E dX3_mayNotBreak_2 ?_
  refine y_callV E dX3_mayNotBreak_3 lk_X3_81 (m_ofTower hA ?_ ?_) (by rfl) (m_o hA _ _) rfl (by decide) (by omega) (by omega) rfl (Nat.le_of_ble_eq_true rfl) ?_ (fun _ _ _ h => h.elim)
  · omega
  · omega
  rintro _ _ ⟨rfl, rfl⟩
  refine y_iconst E dX3_mayNotBreak_6 ?_
  refine y_icmp_ne (tgt := 23) E dX3_mayNotBreak_7 (by decide) (by omega) (by omega) (fun h7 => ?_) (fun h7 => ?_)
  · refine y_iconst E dX3_mayNotBreak_23 ?_
    refine y_ireturn E F rfl rfl dX3_mayNotBreak_24 (by omega) (by omega) (by first | exact absurd trivial h16 | (rw [show whyBroken (T 5) t = some (2, t) from by unfold whyBroken; rw [if_pos h7]]; exact ⟨rT rfl, rfl⟩) | (rw [show whyBroken (T 5) t = none from by unfold whyBroken; rw [if_neg h7]]; exact ⟨rF (by simp), rfl⟩))
  · first | refine y_ald_n E dX3_mayNotBreak_10 (by rfl) ?_ | refine y_aload_n E dX3_mayNotBreak_10 (by rfl) ?_
    refine y_iconst E dX3_mayNotBreak_11 ?_
    refine y_iload_n E dX3_mayNotBreak_12 (by rfl) ?_
    refine y_callV E dX3_mayNotBreak_13 lk_X3_132 (m_hinders hA) (by rfl) (m_o hA _ _) rfl (by decide) (by omega) (by omega) rfl (Nat.le_of_ble_eq_true rfl) ?_ (fun _ _ _ h => h.elim)
    rintro _ _ ⟨rfl, rfl⟩
    refine y_ifd_eq (tgt := 23) E dX3_mayNotBreak_16 (by decide) (fun h16 => ?_) (fun h16 => ?_)
    · refine y_iconst E dX3_mayNotBreak_23 ?_
      refine y_ireturn E F rfl rfl dX3_mayNotBreak_24 (by omega) (by omega) (by first | exact absurd trivial h16 | (rw [show whyBroken (T 5) t = some (2, t) from by unfold whyBroken; rw [if_pos h7]]; exact ⟨rT rfl, rfl⟩) | (rw [show whyBroken (T 5) t = none from by unfold whyBroken; rw [if_neg h7]]; exact ⟨rF (by simp), rfl⟩))
    · refine y_iconst E dX3_mayNotBreak_19 ?_
      refine y_goto (tgt := 24) E dX3_mayNotBreak_20 (by decide) ?_
      refine y_ireturn E F rfl rfl dX3_mayNotBreak_24 (by omega) (by omega) (by first | exact absurd trivial h16 | (rw [show whyBroken (T 5) t = some (2, t) from by unfold whyBroken; rw [if_pos h7]]; exact ⟨rT rfl, rfl⟩) | (rw [show whyBroken (T 5) t = none from by unfold whyBroken; rw [if_neg h7]]; exact ⟨rF (by simp), rfl⟩))
theorem m_mayNotMend (hA : mA A) (hS : SH (T 5)) {t : Int} (ht : 0 ≤ t ∧ t < 8) : Ct_X3_mayNotMend Γ 3 0 0 [.ref (A 0), .int (iI (t))] (mH A T G) (fun v G' => v = some (.int (iI (b2i (dB ((whyMended (T 5) t).isSome = true))))) ∧ G' = mH A (hinO T (whyMended (T 5) t)) G) noX := by
  refine y_start (lv0 := [some (.ref (A 0)), some (.int (iI (t)))]) (nm := "mayNotMend") (own := RX3) (by decide +kernel) rfl rfl (by exact Nat.le_of_ble_eq_true rfl) (by rfl) ?_
  intro Z Q E F
  have hS1 := hS.t ht.1 ht.2
  first | refine y_ald_n E dX3_mayNotMend_0 (by rfl) ?_ | refine y_aload_n E dX3_mayNotMend_0 (by rfl) ?_
  refine y_iload_n E dX3_mayNotMend_1 (by rfl) ?_
  refine y_iconst E dX3_mayNotMend_2 ?_
  refine y_callV E dX3_mayNotMend_3 lk_X3_81 (m_ofTower hA ?_ ?_) (by rfl) (m_o hA _ _) rfl (by decide) (by omega) (by omega) rfl (Nat.le_of_ble_eq_true rfl) ?_ (fun _ _ _ h => h.elim)
  · omega
  · omega
  rintro _ _ ⟨rfl, rfl⟩
  refine y_if_ne (tgt := 23) E dX3_mayNotMend_6 (by decide) (by omega) (fun h6 => ?_) (fun h6 => ?_)
  · refine y_iconst E dX3_mayNotMend_23 ?_
    refine y_ireturn E F rfl rfl dX3_mayNotMend_24 (by omega) (by omega) (by first | exact absurd trivial h16 | (rw [show whyMended (T 5) t = some (7, t) from by unfold whyMended; rw [if_pos h6]]; exact ⟨rT rfl, rfl⟩) | (rw [show whyMended (T 5) t = none from by unfold whyMended; rw [if_neg h6]]; exact ⟨rF (by simp), rfl⟩))
  · first | refine y_ald_n E dX3_mayNotMend_9 (by rfl) ?_ | refine y_aload_n E dX3_mayNotMend_9 (by rfl) ?_
    refine y_bipush E dX3_mayNotMend_10 (by decide) ?_
    refine y_iload_n E dX3_mayNotMend_12 (by rfl) ?_
    refine y_callV E dX3_mayNotMend_13 lk_X3_132 (m_hinders hA) (by rfl) (m_o hA _ _) rfl (by decide) (by omega) (by omega) rfl (Nat.le_of_ble_eq_true rfl) ?_ (fun _ _ _ h => h.elim)
    rintro _ _ ⟨rfl, rfl⟩
    refine y_ifd_eq (tgt := 23) E dX3_mayNotMend_16 (by decide) (fun h16 => ?_) (fun h16 => ?_)
    · refine y_iconst E dX3_mayNotMend_23 ?_
      refine y_ireturn E F rfl rfl dX3_mayNotMend_24 (by omega) (by omega) (by first | exact absurd trivial h16 | (rw [show whyMended (T 5) t = some (7, t) from by unfold whyMended; rw [if_pos h6]]; exact ⟨rT rfl, rfl⟩) | (rw [show whyMended (T 5) t = none from by unfold whyMended; rw [if_neg h6]]; exact ⟨rF (by simp), rfl⟩))
    · refine y_iconst E dX3_mayNotMend_19 ?_
      refine y_goto (tgt := 24) E dX3_mayNotMend_20 (by decide) ?_
      refine y_ireturn E F rfl rfl dX3_mayNotMend_24 (by omega) (by omega) (by first | exact absurd trivial h16 | (rw [show whyMended (T 5) t = some (7, t) from by unfold whyMended; rw [if_pos h6]]; exact ⟨rT rfl, rfl⟩) | (rw [show whyMended (T 5) t = none from by unfold whyMended; rw [if_neg h6]]; exact ⟨rF (by simp), rfl⟩))
theorem m_mayNotLight (hA : mA A) (hS : SH (T 5)) (hU : UT (T 5)) {t : Int} (ht : 0 ≤ t ∧ t < T 5 10) : Ct_X3_mayNotLight Γ 6 0 0 [.ref (A 0), .int (iI (t))] (mH A T G) (fun v G' => v = some (.int (iI (b2i (dB ((whyLit (T 5) t).isSome = true))))) ∧ G' = mH A (hinO T (whyLit (T 5) t)) G) noX := by
  refine y_start (lv0 := [some (.ref (A 0)), some (.int (iI (t))), none]) (nm := "mayNotLight") (own := RX3) (by decide +kernel) rfl rfl (by exact Nat.le_of_ble_eq_true rfl) (by rfl) ?_
  intro Z Q E F
  have hn := hS.nt
  have hS1 := hS.t ht.1 (by omega)
  have hS2 := hS.pow ht.1 (by omega)
  have loop : whyLit (T 5) t = (if fstI (fun k => tw (T 5) k 4 = 1 ∧ mistP (T 5) k t) (T 5 10) < 0 then none else some (6, fstI (fun k => tw (T 5) k 4 = 1 ∧ mistP (T 5) k t) (T 5 10))) → ∀ i : Int, 0 ≤ i → i ≤ T 5 10 → (∀ j, 0 ≤ j → j < i → ¬ (fun k => tw (T 5) k 4 = 1 ∧ mistP (T 5) k t) j) → Y Γ Z 0 0 Q (mH A T G) 54 [some (.ref (A 0)), some (.int (iI t)), some (.int (iI i))] [] := by
    intro hw
    refine loopDown (T 5 10) ?_
    intro i ih h0 h1 hj
    refine y_iload_n E dX3_mayNotLight_54 (by rfl) ?_
    first | refine y_ald_n E dX3_mayNotLight_55 (by rfl) ?_ | refine y_aload_n E dX3_mayNotLight_55 (by rfl) ?_
    refine y_get E dX3_mayNotLight_56 fl_X3_13_X3 (m_o hA _ _) (by rfl) ?_
    refine y_bipush E dX3_mayNotLight_59 (by decide) ?_
    refine y_iald E dX3_mayNotLight_61 (m_r5 hA _ _) (by omega) ?_
    refine y_icmp_ge (tgt := 96) E dX3_mayNotLight_62 (by decide) (by omega) (by omega) (fun h62 => ?_) (fun h62 => ?_)
    · refine y_iconst E dX3_mayNotLight_96 ?_
      refine y_ireturn E F rfl rfl dX3_mayNotLight_97 (by omega) (by omega) (by rw [hw, fst_miss (by omega) (fun j a b => hj j a (by omega)), if_pos (by omega)]; exact ⟨rF (by simp), rfl⟩)
    · first | refine y_ald_n E dX3_mayNotLight_65 (by rfl) ?_ | refine y_aload_n E dX3_mayNotLight_65 (by rfl) ?_
      refine y_iload_n E dX3_mayNotLight_66 (by rfl) ?_
      refine y_callV E dX3_mayNotLight_67 lk_X3_109 (m_isLit hA ?_ ?_) (by rfl) (m_o hA _ _) rfl (by decide) (by omega) (by omega) rfl (Nat.le_of_ble_eq_true rfl) ?_ (fun _ _ _ h => h.elim)
      · exact hS
      · omega
      rintro _ _ ⟨rfl, rfl⟩
      refine y_ifd_eq (tgt := 90) E dX3_mayNotLight_70 (by decide) (fun h70 => ?_) (fun h70 => ?_)
      · refine y_iinc E dX3_mayNotLight_90 (by rfl) ?_
        refine y_goto (tgt := 54) E dX3_mayNotLight_93 (by decide) ?_
        exact ih (by omega) (by omega) (by omega) (low_s hj (fun q => by first | exact h70 q.1 | exact h79 q.2))
      · first | refine y_ald_n E dX3_mayNotLight_73 (by rfl) ?_ | refine y_aload_n E dX3_mayNotLight_73 (by rfl) ?_
        refine y_iload_n E dX3_mayNotLight_74 (by rfl) ?_
        refine y_iload_n E dX3_mayNotLight_75 (by rfl) ?_
        refine y_callV E dX3_mayNotLight_76 lk_X3_113 (m_canBeMistaken hA ?_ ?_ ?_ ?_ ?_) (by rfl) (m_o hA _ _) rfl (by decide) (by omega) (by omega) rfl (Nat.le_of_ble_eq_true rfl) ?_ (fun _ _ _ h => h.elim)
        · exact hS
        · omega
        · omega
        · exact hU i h0 (by omega)
        · exact hU t ht.1 ht.2
        rintro _ _ ⟨rfl, rfl⟩
        refine y_ifd_eq (tgt := 90) E dX3_mayNotLight_79 (by decide) (fun h79 => ?_) (fun h79 => ?_)
        · refine y_iinc E dX3_mayNotLight_90 (by rfl) ?_
          refine y_goto (tgt := 54) E dX3_mayNotLight_93 (by decide) ?_
          exact ih (by omega) (by omega) (by omega) (low_s hj (fun q => by first | exact h70 q.1 | exact h79 q.2))
        · first | refine y_ald_n E dX3_mayNotLight_82 (by rfl) ?_ | refine y_aload_n E dX3_mayNotLight_82 (by rfl) ?_
          refine y_bipush E dX3_mayNotLight_83 (by decide) ?_
          refine y_iload_n E dX3_mayNotLight_85 (by rfl) ?_
          refine y_callV E dX3_mayNotLight_86 lk_X3_132 (m_hinders hA) (by rfl) (m_o hA _ _) rfl (by decide) (by omega) (by omega) rfl (Nat.le_of_ble_eq_true rfl) ?_ (fun _ _ _ h => h.elim)
          rintro _ _ ⟨rfl, rfl⟩
          refine y_ireturn E F rfl (nar_b _) dX3_mayNotLight_89 (by omega) (by omega) (by rw [hw, fst_hit h0 (by omega) ⟨h70, h79⟩ hj, if_neg (by omega)]; exact ⟨rB (by simp), rfl⟩)
  first | refine y_ald_n E dX3_mayNotLight_0 (by rfl) ?_ | refine y_aload_n E dX3_mayNotLight_0 (by rfl) ?_
  refine y_iload_n E dX3_mayNotLight_1 (by rfl) ?_
  refine y_iconst E dX3_mayNotLight_2 ?_
  refine y_callV E dX3_mayNotLight_3 lk_X3_81 (m_ofTower hA ?_ ?_) (by rfl) (m_o hA _ _) rfl (by decide) (by omega) (by omega) rfl (Nat.le_of_ble_eq_true rfl) ?_ (fun _ _ _ h => h.elim)
  · omega
  · omega
  rintro _ _ ⟨rfl, rfl⟩
  refine y_iconst E dX3_mayNotLight_6 ?_
  refine y_icmp_ne (tgt := 17) E dX3_mayNotLight_7 (by decide) (by omega) (by omega) (fun h7 => ?_) (fun h7 => ?_)
  · first | refine y_ald_n E dX3_mayNotLight_17 (by rfl) ?_ | refine y_aload_n E dX3_mayNotLight_17 (by rfl) ?_
    refine y_iload_n E dX3_mayNotLight_18 (by rfl) ?_
    refine y_callV E dX3_mayNotLight_19 lk_X3_109 (m_isLit hA ?_ ?_) (by rfl) (m_o hA _ _) rfl (by decide) (by omega) (by omega) rfl (Nat.le_of_ble_eq_true rfl) ?_ (fun _ _ _ h => h.elim)
    · exact hS
    · omega
    rintro _ _ ⟨rfl, rfl⟩
    refine y_ifd_eq (tgt := 32) E dX3_mayNotLight_22 (by decide) (fun h22 => ?_) (fun h22 => ?_)
    · first | refine y_ald_n E dX3_mayNotLight_32 (by rfl) ?_ | refine y_aload_n E dX3_mayNotLight_32 (by rfl) ?_
      refine y_iload_n E dX3_mayNotLight_33 (by rfl) ?_
      refine y_callV E dX3_mayNotLight_34 lk_X3_90 (m_powerOf hA ?_ ?_) (by rfl) (m_o hA _ _) rfl (by decide) (by omega) (by omega) rfl (Nat.le_of_ble_eq_true rfl) ?_ (fun _ _ _ h => h.elim)
      · exact hS
      · omega
      rintro _ _ ⟨rfl, rfl⟩
      refine y_iconst E dX3_mayNotLight_37 ?_
      refine y_icmp_ge (tgt := 52) E dX3_mayNotLight_38 (by decide) (by omega) (by omega) (fun h38 => ?_) (fun h38 => ?_)
      · refine y_iconst E dX3_mayNotLight_52 ?_
        refine y_istore_n (j := 2) E dX3_mayNotLight_53 rfl (Nat.le_of_ble_eq_true rfl) ?_
        exact loop (by unfold whyLit; rw [if_neg h7, if_neg h22, if_neg (by omega)]) 0 (by omega) (by omega) (fun j a b => by omega)
      · first | refine y_ald_n E dX3_mayNotLight_41 (by rfl) ?_ | refine y_aload_n E dX3_mayNotLight_41 (by rfl) ?_
        refine y_iconst E dX3_mayNotLight_42 ?_
        first | refine y_ald_n E dX3_mayNotLight_43 (by rfl) ?_ | refine y_aload_n E dX3_mayNotLight_43 (by rfl) ?_
        refine y_iload_n E dX3_mayNotLight_44 (by rfl) ?_
        refine y_callV E dX3_mayNotLight_45 lk_X3_90 (m_powerOf hA ?_ ?_) (by rfl) (m_o hA _ _) rfl (by decide) (by omega) (by omega) rfl (Nat.le_of_ble_eq_true rfl) ?_ (fun _ _ _ h => h.elim)
        · exact hS
        · omega
        rintro _ _ ⟨rfl, rfl⟩
        refine y_callV E dX3_mayNotLight_48 lk_X3_132 (m_hinders hA) (by rfl) (m_o hA _ _) rfl (by decide) (by omega) (by omega) rfl (Nat.le_of_ble_eq_true rfl) ?_ (fun _ _ _ h => h.elim)
        rintro _ _ ⟨rfl, rfl⟩
        refine y_ireturn E F rfl (nar_b _) dX3_mayNotLight_51 (by omega) (by omega) (by rw [show whyLit (T 5) t = some (5, powS (T 5) t) from by unfold whyLit; rw [if_neg h7, if_neg h22, if_pos h38]]; exact ⟨rB (by simp), rfl⟩)
    · first | refine y_ald_n E dX3_mayNotLight_25 (by rfl) ?_ | refine y_aload_n E dX3_mayNotLight_25 (by rfl) ?_
      refine y_iconst E dX3_mayNotLight_26 ?_
      refine y_iload_n E dX3_mayNotLight_27 (by rfl) ?_
      refine y_callV E dX3_mayNotLight_28 lk_X3_132 (m_hinders hA) (by rfl) (m_o hA _ _) rfl (by decide) (by omega) (by omega) rfl (Nat.le_of_ble_eq_true rfl) ?_ (fun _ _ _ h => h.elim)
      rintro _ _ ⟨rfl, rfl⟩
      refine y_ireturn E F rfl (nar_b _) dX3_mayNotLight_31 (by omega) (by omega) (by rw [show whyLit (T 5) t = some (3, t) from by unfold whyLit; rw [if_neg h7, if_pos h22]]; exact ⟨rB (by simp), rfl⟩)
  · first | refine y_ald_n E dX3_mayNotLight_10 (by rfl) ?_ | refine y_aload_n E dX3_mayNotLight_10 (by rfl) ?_
    refine y_iconst E dX3_mayNotLight_11 ?_
    refine y_iload_n E dX3_mayNotLight_12 (by rfl) ?_
    refine y_callV E dX3_mayNotLight_13 lk_X3_132 (m_hinders hA) (by rfl) (m_o hA _ _) rfl (by decide) (by omega) (by omega) rfl (Nat.le_of_ble_eq_true rfl) ?_ (fun _ _ _ h => h.elim)
    rintro _ _ ⟨rfl, rfl⟩
    refine y_ireturn E F rfl (nar_b _) dX3_mayNotLight_16 (by omega) (by omega) (by rw [show whyLit (T 5) t = some (2, t) from by unfold whyLit; rw [if_pos h7]]; exact ⟨rB (by simp), rfl⟩)
end Tw6
