/-! ===== the component: what is asked (5) ===== -/
section Kq
variable {w : Int → Int}
theorem fcM_7 : ∀ c, c < 8 → fcM c ≤ 13700 := by decide +kernel
theorem umk_p {t : Nat} {n : Int} (ht : (t : Int) < n) (hn : n ≤ 8) : umk (2 ^ t) n ≤ n - 1 := by
  have h := umk_or (m := 0) (s := t) ht (by simp)
  rw [Nat.zero_or] at h
  have h0 := umk_b (m := 0) (n := n) (by omega)
  omega
end Kq
section X1o
variable {Γ : yG} {G : yH} {N x : Nat} {C : CF} {I : ID} {S : SA} {T : Nat → Int → Int} {st : Nat} {t0 : yT} {hc fp : Int} {w : Int → Int}
set_option maxHeartbeats 4000000
theorem c_X1_towerOf (hB : gB Γ G) (hC : isC Γ G N x C I S T) (hS : SH (T 5)) (hO : gOK G) (hL : LSW (T 5)) (hU : UT (T 5)) {t i : Int} (ht : inR t) (hi : inR i) : Ct_X1_towerOf Γ 6 3 10 [.ref x, .int (iI t), .int (iI i)] (G) (fun v G' => ansI v (q_towerOf (T 5) t i) ∧ G' = G) (fun E G' => xs [eI, eA] (q_towerOf (T 5) t i).1 E ∧ G' = G) := by
  refine y_start (lv0 := [some (.ref x), some (.int (iI t)), some (.int (iI i)), none]) (nm := "towerOf") (own := RX1) (by decide +kernel) rfl rfl (by exact Nat.le_of_ble_eq_true rfl) (by rfl) ?_
  intro Z Q E F
  have hx := hC.o
  have hI := hC.s
  have hst := hI.1
  have hn := hS.nt
  obtain ⟨w, hw⟩ : ∃ w, w = T 5 := ⟨_, rfl⟩
  rw [← hw] at hI hst hn hS ⊢
  rw [← hw] at hL hU
  have no : ¬ (0 ≤ t ∧ t ≤ w 10 - 1) → q_towerOf w t i = (1, 0) := fun a => if_pos a
  have no2 : 0 ≤ t ∧ t ≤ w 10 - 1 → ¬ (0 ≤ i ∧ i ≤ 8) → q_towerOf w t i = (2, 0) := fun a b => by unfold q_towerOf; rw [if_neg (fun q => q a), if_pos (by omega)]
  have y5 : 0 ≤ t ∧ t ≤ w 10 - 1 → 0 ≤ i → i < 6 → q_towerOf w t i = (0, tw w t i) := fun a b c => by unfold q_towerOf; rw [if_neg (fun q => q a), if_neg (by omega), if_pos c]
  have y6 : 0 ≤ t ∧ t ≤ w 10 - 1 → i = 6 → q_towerOf w t i = (0, tw w t 7) := fun a b => by unfold q_towerOf; rw [if_neg (fun q => q a), if_neg (by omega), if_neg (by omega), if_pos b]
  have y7 : 0 ≤ t ∧ t ≤ w 10 - 1 → i = 7 → q_towerOf w t i = (0, ((popS (tw w t 6).toNat : Nat) : Int)) := fun a b => by unfold q_towerOf; rw [if_neg (fun q => q a), if_neg (by omega), if_neg (by omega), if_neg (by omega), if_pos b]
  have y8 : 0 ≤ t ∧ t ≤ w 10 - 1 → i = 8 → q_towerOf w t i = (0, sumI (fun p => b2i (dB (rchP w t p))) 61) := fun a b => by unfold q_towerOf; rw [if_neg (fun q => q a), if_neg (by omega), if_neg (by omega), if_neg (by omega), if_neg (by omega)]
  have hsd := hC.d
  by_cases h8 : 0 ≤ t ∧ t ≤ w 10 - 1
  · have hSt := hS.t (t := t) h8.1 (by omega)
    have hPt := hU t h8.1 (by omega)
    have hp8 : (2 : Nat) ^ (tw w t 7).toNat ≤ 2 ^ 8 := Nat.pow_le_pow_right (by decide) (by have := hPt.2.1; omega)
    have hP3 := hPt.2.2.1
    have hP4 := hPt.2.2.2
    have htw0 := isST_t hI (t := t.toNat) (by omega)
    unfold twX twE at htw0
    rw [show ((t.toNat : Nat) : Int) = t by omega] at htw0
    have K77 : i = 1 → Y Γ Z 0 0 Q G 77 [some (.ref x), some (.int (iI t)), some (.int (iI i)), some (.ref (sTa S t.toNat))] [] := by
      intro i1
      obtain ⟨q7, f7, hsd1, hsd2⟩ := hC.d
      have hne := hB.2.2.2.2.2
      have h01 : yad Γ 0 ≠ yad Γ 1 := hne.1
      have h02 : yad Γ 0 ≠ yad Γ 2 := hne.2.1
      have h12 : yad Γ 1 ≠ yad Γ 2 := hne.2.2
      have hx3 : ∀ j : Nat, j < 3 → f3 (yad Γ 0) (yad Γ 1) (yad Γ 2) j = some (yad Γ j) := fun j hj => by
        rcases (show j = 0 ∨ j = 1 ∨ j = 2 by omega) with rfl | rfl | rfl <;> rfl
      obtain ⟨j, hj⟩ : ∃ j : Nat, j = (tw w t 1).toNat := ⟨_, rfl⟩
      have hj3 : j < 3 := by omega
      rw [← hj] at htw0
      obtain ⟨ci, hci, hcg⟩ : ∃ ci, (ci = 18 ∨ ci = 19 ∨ ci = 20) ∧ G (yad Γ j) = some (none, .inr (ci, [])) := by
        rcases (show j = 0 ∨ j = 1 ∨ j = 2 by omega) with rfl | rfl | rfl
        · exact ⟨18, Or.inl rfl, hB.2.1⟩
        · exact ⟨19, Or.inr (Or.inl rfl), hB.2.2.1⟩
        · exact ⟨20, Or.inr (Or.inr rfl), hB.2.2.2.1⟩
      first | refine y_ald_n E dX1_towerOf_77 (by rfl) ?_ | refine y_aload_n E dX1_towerOf_77 (by rfl) ?_
      refine y_get E dX1_towerOf_78 fl_X1_62_X1 (hx) (by rfl) ?_
      first | refine y_ald_n E dX1_towerOf_81 (by rfl) ?_ | refine y_aload_n E dX1_towerOf_81 (by rfl) ?_
      refine y_getN E dX1_towerOf_82 fl_X1_437_X6 (htw0) (by rfl) ?_
      refine y_callF E dX1_towerOf_85 lk_X1_440_J16 (c_J16_indexOf hsd (j := j) hcg hci hj3 (hx3 j hj3) (fun a ha e => by rw [hx3 a (by omega)] at e; have e := Option.some.inj e; rcases (show (a = 0 ∧ j = 1) ∨ (a = 0 ∧ j = 2) ∨ (a = 1 ∧ j = 2) by omega) with ⟨a1, a2⟩ | ⟨a1, a2⟩ | ⟨a1, a2⟩ <;> rw [a1, a2] at e <;> first | exact h01 e | exact h02 e | exact h12 e)) (by rfl) (hsd1) rfl (by decide) (by omega) (by omega) rfl (Nat.le_of_ble_eq_true rfl) ?_ (fun _ _ _ h => h.elim)
      rintro _ _ ⟨rfl, hG9⟩
      rw [hG9]
      clear hG9
      refine y_ireturn E F rfl rfl dX1_towerOf_90 (by omega) (by omega) ⟨ansI_i (by rw [y5 h8 (by omega) (by omega), i1]; congr 1; omega), rfl⟩
    have K96 : i = 3 → Y Γ Z 0 0 Q G 96 [some (.ref x), some (.int (iI t)), some (.int (iI i)), some (.ref (sTa S t.toNat))] [] := by
      intro i3
      by_cases h3 : tw w t 3 < 0
      · rw [lnO_n h3] at htw0
        first | refine y_ald_n E dX1_towerOf_96 (by rfl) ?_ | refine y_aload_n E dX1_towerOf_96 (by rfl) ?_
        refine y_getN E dX1_towerOf_97 fl_X1_250_X6 (htw0) (by rfl) ?_
        refine y_ifnonnull_n E dX1_towerOf_100 ?_
        refine y_iconst E dX1_towerOf_103 ?_
        refine y_goto (tgt := 114) E dX1_towerOf_104 (by decide) ?_
        refine y_ireturn E F rfl rfl dX1_towerOf_114 (by omega) (by omega) ⟨ansI_i (by rw [y5 h8 (by omega) (by omega), i3]; congr 1; omega), rfl⟩
      · rw [lnO_s (by omega)] at htw0
        have hLt := hL t h8.1 (by omega)
        have hlw := isST_l hI (l := (tw w t 3).toNat) (by omega)
        unfold lnX lnE at hlw
        first | refine y_ald_n E dX1_towerOf_96 (by rfl) ?_ | refine y_aload_n E dX1_towerOf_96 (by rfl) ?_
        refine y_getN E dX1_towerOf_97 fl_X1_250_X6 (htw0) (by rfl) ?_
        refine y_ifnonnull_r (tgt := 107) E dX1_towerOf_100 (by decide) ?_
        first | refine y_ald_n E dX1_towerOf_107 (by rfl) ?_ | refine y_aload_n E dX1_towerOf_107 (by rfl) ?_
        refine y_getN E dX1_towerOf_108 fl_X1_250_X6 (htw0) (by rfl) ?_
        refine y_getN E dX1_towerOf_111 fl_X1_176_X5 (hlw) (by rfl) ?_
        refine y_ireturn E F rfl rfl dX1_towerOf_114 (by omega) (by omega) ⟨ansI_i (by rw [y5 h8 (by omega) (by omega), i3]; congr 1; omega), rfl⟩
    first | refine y_ald_n E dX1_towerOf_0 (by rfl) ?_ | refine y_aload_n E dX1_towerOf_0 (by rfl) ?_
    refine y_iload_n E dX1_towerOf_1 (by rfl) ?_
    refine y_callV E dX1_towerOf_2 lk_X1_177 (c_X1_isTower hx hI hS ht) (by rfl) (hx) rfl (by decide) (by omega) (by omega) rfl (Nat.le_of_ble_eq_true rfl) ?_ (fun _ _ _ h => h.elim)
    rintro _ _ ⟨rfl, hG9⟩
    rw [hG9]
    clear hG9
    refine y_callS E dX1_towerOf_5 lk_X1_122 (c_X1_checkIndex_b) (by rfl) (by decide) (by omega) (by omega) rfl (Nat.le_of_ble_eq_true rfl) ?_ ?_
    swap
    · rintro _ _ _ ⟨rfl, h5, rfl⟩
      exact y_xout E F (by omega) (by omega) (⟨xs_0 (okP (no h5)).1, rfl⟩)
    rintro _ _ ⟨rfl, h5, rfl⟩
    refine y_iload_n E dX1_towerOf_8 (by rfl) ?_
    refine y_iconst E dX1_towerOf_9 ?_
    refine y_bipush E dX1_towerOf_10 (by decide) ?_
    refine y_callS E dX1_towerOf_12 lk_X1_85 (c_X1_isBetween hi (by omega) (by omega)) (by rfl) (by decide) (by omega) (by omega) rfl (Nat.le_of_ble_eq_true rfl) ?_ (fun _ _ _ h => h.elim)
    rintro _ _ ⟨rfl, hG9⟩
    rw [hG9]
    clear hG9
    refine y_callS E dX1_towerOf_15 lk_X1_126 (c_X1_check_b) (by rfl) (by decide) (by omega) (by omega) rfl (Nat.le_of_ble_eq_true rfl) ?_ ?_
    swap
    · rintro _ _ _ ⟨rfl, h15, rfl⟩
      exact y_xout E F (by omega) (by omega) (⟨xs_1 (okP (no2 h8 h15)).1, rfl⟩)
    rintro _ _ ⟨rfl, h15, rfl⟩
    first | refine y_ald_n E dX1_towerOf_18 (by rfl) ?_ | refine y_aload_n E dX1_towerOf_18 (by rfl) ?_
    refine y_iload_n E dX1_towerOf_19 (by rfl) ?_
    refine y_callV E dX1_towerOf_20 lk_X1_189 (c_X1_at hx hI hS (t := t) (by omega) (by omega)) (by rfl) (hx) rfl (by decide) (by omega) (by omega) rfl (Nat.le_of_ble_eq_true rfl) ?_ (fun _ _ _ h => h.elim)
    rintro _ _ ⟨rfl, hG9⟩
    rw [hG9]
    clear hG9
    first | refine y_ast_n (j := 3) E dX1_towerOf_23 rfl (Nat.le_of_ble_eq_true rfl) ?_ | refine y_astore_n (j := 3) E dX1_towerOf_23 rfl (Nat.le_of_ble_eq_true rfl) ?_ | refine y_astore_n (j := 3) (r := none) E dX1_towerOf_23 rfl (Nat.le_of_ble_eq_true rfl) ?_
    refine y_iload_n E dX1_towerOf_24 (by rfl) ?_
    rcases (show i < 0 ∨ 7 < i ∨ i = 0 ∨ i = 1 ∨ i = 2 ∨ i = 3 ∨ i = 4 ∨ i = 5 ∨ i = 6 ∨ i = 7 by omega) with h25 | h25 | h25 | h25 | h25 | h25 | h25 | h25 | h25 | h25
    · refine y_tsOut (tgt := 154) E dX1_towerOf_25 (by omega) (by omega) (by decide) ?_
      first | refine y_ald_n E dX1_towerOf_154 (by rfl) ?_ | refine y_aload_n E dX1_towerOf_154 (by rfl) ?_
      refine y_get E dX1_towerOf_155 fl_X1_10_X1 (hx) (by rfl) ?_
      first | refine y_ald_n E dX1_towerOf_158 (by rfl) ?_ | refine y_aload_n E dX1_towerOf_158 (by rfl) ?_
      refine y_callV E dX1_towerOf_159 lk_X1_289 (c_X2_reached hB hI hS hL (t := t.toNat) (0, 98) hO.1 (by omega)) (by rfl) (hst) rfl (by decide) (by omega) (by omega) rfl (Nat.le_of_ble_eq_true rfl) ?_ (fun _ _ _ h => h.elim)
      rintro _ G1 ⟨b, rfl, ⟨P, hP, hb⟩, hE, -⟩
      obtain ⟨fsb, hbc⟩ := hb.c
      refine y_callV E dX1_towerOf_162 lk_X1_322 (c_J37_cardinality hb) (by rfl) (hbc) rfl (by decide) (by omega) (by omega) rfl (Nat.le_of_ble_eq_true rfl) ?_ (fun _ _ _ h => h.elim)
      rintro _ _ ⟨rfl, hG9⟩
      rw [hG9]
      clear hG9
      refine y_forget hE ?_
      refine y_ireturn E F rfl rfl dX1_towerOf_165 (by omega) (by omega) ⟨ansI_i (by rw [y8 h8 (by omega), show (61 : Int) = ((61 : Nat) : Int) from rfl, cnt_sum (P := P) (fun k hk => by rw [hP k hk]; unfold rchB; rw [show ((t.toNat : Nat) : Int) = t by omega])]), rfl⟩
    · refine y_tsOut (tgt := 154) E dX1_towerOf_25 (by omega) (by omega) (by decide) ?_
      first | refine y_ald_n E dX1_towerOf_154 (by rfl) ?_ | refine y_aload_n E dX1_towerOf_154 (by rfl) ?_
      refine y_get E dX1_towerOf_155 fl_X1_10_X1 (hx) (by rfl) ?_
      first | refine y_ald_n E dX1_towerOf_158 (by rfl) ?_ | refine y_aload_n E dX1_towerOf_158 (by rfl) ?_
      refine y_callV E dX1_towerOf_159 lk_X1_289 (c_X2_reached hB hI hS hL (t := t.toNat) (0, 98) hO.1 (by omega)) (by rfl) (hst) rfl (by decide) (by omega) (by omega) rfl (Nat.le_of_ble_eq_true rfl) ?_ (fun _ _ _ h => h.elim)
      rintro _ G1 ⟨b, rfl, ⟨P, hP, hb⟩, hE, -⟩
      obtain ⟨fsb, hbc⟩ := hb.c
      refine y_callV E dX1_towerOf_162 lk_X1_322 (c_J37_cardinality hb) (by rfl) (hbc) rfl (by decide) (by omega) (by omega) rfl (Nat.le_of_ble_eq_true rfl) ?_ (fun _ _ _ h => h.elim)
      rintro _ _ ⟨rfl, hG9⟩
      rw [hG9]
      clear hG9
      refine y_forget hE ?_
      refine y_ireturn E F rfl rfl dX1_towerOf_165 (by omega) (by omega) ⟨ansI_i (by rw [y8 h8 (by omega), show (61 : Int) = ((61 : Nat) : Int) from rfl, cnt_sum (P := P) (fun k hk => by rw [hP k hk]; unfold rchB; rw [show ((t.toNat : Nat) : Int) = t by omega])]), rfl⟩
    · refine y_tsIn (tgt := 72) (off := 47) E dX1_towerOf_25 (by omega) (by omega) (by rw [h25]; rfl) (by decide) ?_
      first | refine y_ald_n E dX1_towerOf_72 (by rfl) ?_ | refine y_aload_n E dX1_towerOf_72 (by rfl) ?_
      refine y_getN E dX1_towerOf_73 fl_X1_147_X6 (htw0) (by rfl) ?_
      refine y_ireturn E F rfl rfl dX1_towerOf_76 (by omega) (by omega) ⟨ansI_i (by rw [y5 h8 (by omega) (by omega), h25]), rfl⟩
    · refine y_tsIn (tgt := 77) (off := 52) E dX1_towerOf_25 (by omega) (by omega) (by rw [h25]; rfl) (by decide) ?_
      exact y_widen (by omega) (by omega) (K77 (by omega))
    · refine y_tsIn (tgt := 91) (off := 66) E dX1_towerOf_25 (by omega) (by omega) (by rw [h25]; rfl) (by decide) ?_
      first | refine y_ald_n E dX1_towerOf_91 (by rfl) ?_ | refine y_aload_n E dX1_towerOf_91 (by rfl) ?_
      refine y_getN E dX1_towerOf_92 fl_X1_357_X6 (htw0) (by rfl) ?_
      refine y_ireturn E F rfl rfl dX1_towerOf_95 (by omega) (by omega) ⟨ansI_i (by rw [y5 h8 (by omega) (by omega), h25]), rfl⟩
    · refine y_tsIn (tgt := 96) (off := 71) E dX1_towerOf_25 (by omega) (by omega) (by rw [h25]; rfl) (by decide) ?_
      exact y_widen (by omega) (by omega) (K96 (by omega))
    · refine y_tsIn (tgt := 115) (off := 90) E dX1_towerOf_25 (by omega) (by omega) (by rw [h25]; rfl) (by decide) ?_
      first | refine y_ald_n E dX1_towerOf_115 (by rfl) ?_ | refine y_aload_n E dX1_towerOf_115 (by rfl) ?_
      refine y_getN E dX1_towerOf_116 fl_X1_220_X6 (htw0) (by rfl) ?_
      refine y_if_eq (tgt := 126) E dX1_towerOf_119 (by decide) (by omega) (fun h119 => ?_) (fun h119 => ?_)
      · refine y_iconst E dX1_towerOf_126 ?_
        refine y_ireturn E F rfl rfl dX1_towerOf_127 (by omega) (by omega) ⟨ansI_i (by rw [y5 h8 (by omega) (by omega), h25]; congr 1; omega), rfl⟩
      · refine y_iconst E dX1_towerOf_122 ?_
        refine y_goto (tgt := 127) E dX1_towerOf_123 (by decide) ?_
        refine y_ireturn E F rfl rfl dX1_towerOf_127 (by omega) (by omega) ⟨ansI_i (by rw [y5 h8 (by omega) (by omega), h25]; congr 1; omega), rfl⟩
    · refine y_tsIn (tgt := 128) (off := 103) E dX1_towerOf_25 (by omega) (by omega) (by rw [h25]; rfl) (by decide) ?_
      first | refine y_ald_n E dX1_towerOf_128 (by rfl) ?_ | refine y_aload_n E dX1_towerOf_128 (by rfl) ?_
      refine y_getN E dX1_towerOf_129 fl_X1_237_X6 (htw0) (by rfl) ?_
      refine y_if_eq (tgt := 139) E dX1_towerOf_132 (by decide) (by omega) (fun h132 => ?_) (fun h132 => ?_)
      · refine y_iconst E dX1_towerOf_139 ?_
        refine y_ireturn E F rfl rfl dX1_towerOf_140 (by omega) (by omega) ⟨ansI_i (by rw [y5 h8 (by omega) (by omega), h25]; congr 1; omega), rfl⟩
      · refine y_iconst E dX1_towerOf_135 ?_
        refine y_goto (tgt := 140) E dX1_towerOf_136 (by decide) ?_
        refine y_ireturn E F rfl rfl dX1_towerOf_140 (by omega) (by omega) ⟨ansI_i (by rw [y5 h8 (by omega) (by omega), h25]; congr 1; omega), rfl⟩
    · refine y_tsIn (tgt := 141) (off := 116) E dX1_towerOf_25 (by omega) (by omega) (by rw [h25]; rfl) (by decide) ?_
      first | refine y_ald_n E dX1_towerOf_141 (by rfl) ?_ | refine y_aload_n E dX1_towerOf_141 (by rfl) ?_
      refine y_getN E dX1_towerOf_142 fl_X1_202_X6 (htw0) (by rfl) ?_
      refine y_ireturn E F rfl rfl dX1_towerOf_145 (by omega) (by omega) ⟨ansI_i (by rw [y6 h8 h25]), rfl⟩
    · refine y_tsIn (tgt := 146) (off := 121) E dX1_towerOf_25 (by omega) (by omega) (by rw [h25]; rfl) (by decide) ?_
      first | refine y_ald_n E dX1_towerOf_146 (by rfl) ?_ | refine y_aload_n E dX1_towerOf_146 (by rfl) ?_
      refine y_getN E dX1_towerOf_147 fl_X1_193_X6 (htw0) (by rfl) ?_
      rw [show tw w t 6 = (((tw w t 6).toNat : Nat) : Int) by omega]
      refine y_callS E dX1_towerOf_150 lk_X1_196 (c_J30_bitCount (x := (tw w t 6).toNat) (by omega)) (by rfl) (by decide) (by omega) (by omega) rfl (Nat.le_of_ble_eq_true rfl) ?_ (fun _ _ _ h => h.elim)
      rintro _ _ ⟨rfl, hG9⟩
      rw [hG9]
      clear hG9
      rw [← popS_e]
      refine y_ireturn E F rfl rfl dX1_towerOf_153 (by omega) (by omega) ⟨ansI_i (by rw [y7 h8 h25]), rfl⟩
  · first | refine y_ald_n E dX1_towerOf_0 (by rfl) ?_ | refine y_aload_n E dX1_towerOf_0 (by rfl) ?_
    refine y_iload_n E dX1_towerOf_1 (by rfl) ?_
    refine y_callV E dX1_towerOf_2 lk_X1_177 (c_X1_isTower hx hI hS ht) (by rfl) (hx) rfl (by decide) (by omega) (by omega) rfl (Nat.le_of_ble_eq_true rfl) ?_ (fun _ _ _ h => h.elim)
    rintro _ _ ⟨rfl, hG9⟩
    rw [hG9]
    clear hG9
    refine y_callS E dX1_towerOf_5 lk_X1_122 (c_X1_checkIndex_b) (by rfl) (by decide) (by omega) (by omega) rfl (Nat.le_of_ble_eq_true rfl) ?_ ?_
    swap
    · rintro _ _ _ ⟨rfl, h5, rfl⟩
      exact y_xout E F (by omega) (by omega) (⟨xs_0 (okP (no h5)).1, rfl⟩)
    rintro _ _ ⟨rfl, h5, rfl⟩
    exact absurd h5 h8
theorem c_X1_account (hB : gB Γ G) (hC : isC Γ G N x C I S T) (hS : SH (T 5)) {i : Int} (hi : inR i) : Ct_X1_account Γ 4 2 10 [.ref x, .int (iI i)] (G) (fun v G' => ansI v (q_account T i) ∧ G' = G) (fun E G' => xs [eA] (q_account T i).1 E ∧ G' = G) := by
  refine y_start (lv0 := [some (.ref x), some (.int (iI i))]) (nm := "account") (own := RX1) (by decide +kernel) rfl rfl (by exact Nat.le_of_ble_eq_true rfl) (by rfl) ?_
  intro Z Q E F
  have hx := hC.o
  have hI := hC.s
  have hst := hI.1
  have hn := hS.nt
  have hnl := hS.nl
  have hns := hS.ns
  have hal := hI.2.1
  have hal2 := hI.2.2.1
  have hll := hI.2.2.2.1
  obtain ⟨fal, hac⟩ := hal.c
  obtain ⟨fal2, hac2⟩ := hal2.c
  obtain ⟨fll, hlc⟩ := hll.c
  have hlen : ((twL S (T 5)).length : Int) = T 5 10 := by rw [twL_len]; omega
  have hlen2 : ((lnL S (T 5)).length : Int) = T 5 11 := by rw [lnL_len]; omega
  have hlen3 : ((((soL S (T 5)).map some).length : Nat) : Int) = T 5 12 := by simp [soL]; omega
  obtain ⟨hs, hhl, -⟩ := hC.h
  have hnn := hC.n
  obtain ⟨fhl, hhc⟩ := hhl.c
  have hlen4 : (((((List.range (T 9 0).toNat).map hs).map some).length : Nat) : Int) = T 9 0 := by rw [List.length_map, List.length_map, List.length_range]; omega
  obtain ⟨cs, hb, hc1, -⟩ := hC.i
  obtain ⟨fb, hbc⟩ : ∃ fb, G (kIn C) = some (some (0, 3), .inr (15, fb)) := by
    obtain ⟨q, cap, f, ml, g1, -⟩ := hb
    exact ⟨_, g1⟩
  refine y_iload_n E dX1_account_0 (by rfl) ?_
  refine y_iconst E dX1_account_1 ?_
  refine y_bipush E dX1_account_2 (by decide) ?_
  refine y_callS E dX1_account_4 lk_X1_85 (c_X1_isBetween hi (by omega) (by omega)) (by rfl) (by decide) (by omega) (by omega) rfl (Nat.le_of_ble_eq_true rfl) ?_ (fun _ _ _ h => h.elim)
  rintro _ _ ⟨rfl, hG9⟩
  rw [hG9]
  clear hG9
  refine y_callS E dX1_account_7 lk_X1_126 (c_X1_check_b) (by rfl) (by decide) (by omega) (by omega) rfl (Nat.le_of_ble_eq_true rfl) ?_ ?_
  swap
  · rintro _ _ _ ⟨rfl, h7, rfl⟩
    exact y_xout E F (by omega) (by omega) (⟨xs_0 (okP (show q_account T i = (1, 0) by unfold q_account; rw [if_pos (by omega)])).1, rfl⟩)
  rintro _ _ ⟨rfl, h7, rfl⟩
  refine y_iload_n E dX1_account_10 (by rfl) ?_
  rcases (show i < 0 ∨ 11 < i ∨ i = 0 ∨ i = 1 ∨ i = 2 ∨ i = 3 ∨ i = 4 ∨ i = 5 ∨ i = 6 ∨ i = 7 ∨ i = 8 ∨ i = 9 ∨ i = 10 ∨ i = 11 by omega) with h11 | h11 | h11 | h11 | h11 | h11 | h11 | h11 | h11 | h11 | h11 | h11 | h11 | h11
  · refine y_tsOut (tgt := 165) E dX1_account_11 (by omega) (by omega) (by decide) ?_
    first | refine y_ald_n E dX1_account_165 (by rfl) ?_ | refine y_aload_n E dX1_account_165 (by rfl) ?_
    refine y_get E dX1_account_166 fl_X1_19_X1 (hx) (by rfl) ?_
    refine y_callV E dX1_account_169 lk_X1_107 (c_J4_size hhl) (by rfl) (hhc) rfl (by decide) (by omega) (by omega) rfl (Nat.le_of_ble_eq_true rfl) ?_ (fun _ _ _ h => h.elim)
    rintro _ _ ⟨rfl, hG9⟩
    rw [hG9]
    clear hG9
    rw [hlen4]
    refine y_ireturn E F rfl rfl dX1_account_172 (by omega) (by omega) ⟨ansI_i (by rw [show i = 12 by omega]; unfold q_account; repeat (first | rw [if_pos (by decide)] | rw [if_neg (by decide)])), rfl⟩
  · refine y_tsOut (tgt := 165) E dX1_account_11 (by omega) (by omega) (by decide) ?_
    first | refine y_ald_n E dX1_account_165 (by rfl) ?_ | refine y_aload_n E dX1_account_165 (by rfl) ?_
    refine y_get E dX1_account_166 fl_X1_19_X1 (hx) (by rfl) ?_
    refine y_callV E dX1_account_169 lk_X1_107 (c_J4_size hhl) (by rfl) (hhc) rfl (by decide) (by omega) (by omega) rfl (Nat.le_of_ble_eq_true rfl) ?_ (fun _ _ _ h => h.elim)
    rintro _ _ ⟨rfl, hG9⟩
    rw [hG9]
    clear hG9
    rw [hlen4]
    refine y_ireturn E F rfl rfl dX1_account_172 (by omega) (by omega) ⟨ansI_i (by rw [show i = 12 by omega]; unfold q_account; repeat (first | rw [if_pos (by decide)] | rw [if_neg (by decide)])), rfl⟩
  · refine y_tsIn (tgt := 72) (off := 61) E dX1_account_11 (by omega) (by omega) (by rw [h11]; rfl) (by decide) ?_
    first | refine y_ald_n E dX1_account_72 (by rfl) ?_ | refine y_aload_n E dX1_account_72 (by rfl) ?_
    refine y_get E dX1_account_73 fl_X1_10_X1 (hx) (by rfl) ?_
    refine y_getN E dX1_account_76 fl_X1_78_X2 (hst) (by rfl) ?_
    refine y_callV E dX1_account_79 lk_X1_81 (c_AL_size hal) (by rfl) (hac) rfl (by decide) (by omega) (by omega) rfl (Nat.le_of_ble_eq_true rfl) ?_ (fun _ _ _ h => h.elim)
    rintro _ _ ⟨rfl, hG9⟩
    rw [hG9]
    clear hG9
    rw [hlen]
    refine y_ireturn E F rfl rfl dX1_account_82 (by omega) (by omega) ⟨ansI_i (by rw [h11]; unfold q_account; repeat (first | rw [if_pos (by decide)] | rw [if_neg (by decide)])), rfl⟩
  · refine y_tsIn (tgt := 83) (off := 72) E dX1_account_11 (by omega) (by omega) (by rw [h11]; rfl) (by decide) ?_
    first | refine y_ald_n E dX1_account_83 (by rfl) ?_ | refine y_aload_n E dX1_account_83 (by rfl) ?_
    refine y_get E dX1_account_84 fl_X1_10_X1 (hx) (by rfl) ?_
    refine y_callV E dX1_account_87 lk_X1_224 (c_X2_lit hB hI hS) (by rfl) (hst) rfl (by decide) (by omega) (by omega) rfl (Nat.le_of_ble_eq_true rfl) ?_ (fun _ _ _ h => h.elim)
    rintro _ _ ⟨rfl, hG9⟩
    rw [hG9]
    clear hG9
    refine y_ireturn E F rfl rfl dX1_account_90 (by omega) (by omega) ⟨ansI_i (by rw [h11]; unfold q_account; repeat (first | rw [if_pos (by decide)] | rw [if_neg (by decide)])), rfl⟩
  · refine y_tsIn (tgt := 91) (off := 80) E dX1_account_11 (by omega) (by omega) (by rw [h11]; rfl) (by decide) ?_
    first | refine y_ald_n E dX1_account_91 (by rfl) ?_ | refine y_aload_n E dX1_account_91 (by rfl) ?_
    refine y_callV E dX1_account_92 lk_X1_243 (c_X1_broken hB hx hI hS) (by rfl) (hx) rfl (by decide) (by omega) (by omega) rfl (Nat.le_of_ble_eq_true rfl) ?_ (fun _ _ _ h => h.elim)
    rintro _ _ ⟨rfl, hG9⟩
    rw [hG9]
    clear hG9
    refine y_ireturn E F rfl rfl dX1_account_95 (by omega) (by omega) ⟨ansI_i (by rw [h11]; unfold q_account; repeat (first | rw [if_pos (by decide)] | rw [if_neg (by decide)])), rfl⟩
  · refine y_tsIn (tgt := 96) (off := 85) E dX1_account_11 (by omega) (by omega) (by rw [h11]; rfl) (by decide) ?_
    first | refine y_ald_n E dX1_account_96 (by rfl) ?_ | refine y_aload_n E dX1_account_96 (by rfl) ?_
    refine y_get E dX1_account_97 fl_X1_10_X1 (hx) (by rfl) ?_
    refine y_getN E dX1_account_100 fl_X1_167_X2 (hst) (by rfl) ?_
    refine y_callV E dX1_account_103 lk_X1_81 (c_AL_size hal2) (by rfl) (hac2) rfl (by decide) (by omega) (by omega) rfl (Nat.le_of_ble_eq_true rfl) ?_ (fun _ _ _ h => h.elim)
    rintro _ _ ⟨rfl, hG9⟩
    rw [hG9]
    clear hG9
    rw [hlen2]
    refine y_ireturn E F rfl rfl dX1_account_106 (by omega) (by omega) ⟨ansI_i (by rw [h11]; unfold q_account; repeat (first | rw [if_pos (by decide)] | rw [if_neg (by decide)])), rfl⟩
  · refine y_tsIn (tgt := 107) (off := 96) E dX1_account_11 (by omega) (by omega) (by rw [h11]; rfl) (by decide) ?_
    first | refine y_ald_n E dX1_account_107 (by rfl) ?_ | refine y_aload_n E dX1_account_107 (by rfl) ?_
    refine y_get E dX1_account_108 fl_X1_10_X1 (hx) (by rfl) ?_
    refine y_getN E dX1_account_111 fl_X1_173_X2 (hst) (by rfl) ?_
    refine y_callV E dX1_account_114 lk_X1_107 (c_J4_size hll) (by rfl) (hlc) rfl (by decide) (by omega) (by omega) rfl (Nat.le_of_ble_eq_true rfl) ?_ (fun _ _ _ h => h.elim)
    rintro _ _ ⟨rfl, hG9⟩
    rw [hG9]
    clear hG9
    rw [hlen3]
    refine y_ireturn E F rfl rfl dX1_account_117 (by omega) (by omega) ⟨ansI_i (by rw [h11]; unfold q_account; repeat (first | rw [if_pos (by decide)] | rw [if_neg (by decide)])), rfl⟩
  · refine y_tsIn (tgt := 118) (off := 107) E dX1_account_11 (by omega) (by omega) (by rw [h11]; rfl) (by decide) ?_
    first | refine y_ald_n E dX1_account_118 (by rfl) ?_ | refine y_aload_n E dX1_account_118 (by rfl) ?_
    refine y_callV E dX1_account_119 lk_X1_453 (c_X1_scrapped hB hx hI hS) (by rfl) (hx) rfl (by decide) (by omega) (by omega) rfl (Nat.le_of_ble_eq_true rfl) ?_ (fun _ _ _ h => h.elim)
    rintro _ _ ⟨rfl, hG9⟩
    rw [hG9]
    clear hG9
    refine y_ireturn E F rfl rfl dX1_account_122 (by omega) (by omega) ⟨ansI_i (by rw [h11]; unfold q_account; repeat (first | rw [if_pos (by decide)] | rw [if_neg (by decide)])), rfl⟩
  · refine y_tsIn (tgt := 123) (off := 112) E dX1_account_11 (by omega) (by omega) (by rw [h11]; rfl) (by decide) ?_
    first | refine y_ald_n E dX1_account_123 (by rfl) ?_ | refine y_aload_n E dX1_account_123 (by rfl) ?_
    refine y_get E dX1_account_124 fl_X1_10_X1 (hx) (by rfl) ?_
    refine y_getN E dX1_account_127 fl_X1_456_X2 (hst) (by rfl) ?_
    refine y_ireturn E F rfl rfl dX1_account_130 (by omega) (by omega) ⟨ansI_i (by rw [h11]; unfold q_account; (repeat (first | rw [if_pos (by decide)] | rw [if_neg (by decide)])); first | done | rfl), rfl⟩
  · refine y_tsIn (tgt := 131) (off := 120) E dX1_account_11 (by omega) (by omega) (by rw [h11]; rfl) (by decide) ?_
    first | refine y_ald_n E dX1_account_131 (by rfl) ?_ | refine y_aload_n E dX1_account_131 (by rfl) ?_
    refine y_get E dX1_account_132 fl_X1_10_X1 (hx) (by rfl) ?_
    refine y_getN E dX1_account_135 fl_X1_459_X2 (hst) (by rfl) ?_
    refine y_ireturn E F rfl rfl dX1_account_138 (by omega) (by omega) ⟨ansI_i (by rw [h11]; unfold q_account; (repeat (first | rw [if_pos (by decide)] | rw [if_neg (by decide)])); first | done | rfl), rfl⟩
  · refine y_tsIn (tgt := 139) (off := 128) E dX1_account_11 (by omega) (by omega) (by rw [h11]; rfl) (by decide) ?_
    first | refine y_ald_n E dX1_account_139 (by rfl) ?_ | refine y_aload_n E dX1_account_139 (by rfl) ?_
    refine y_get E dX1_account_140 fl_X1_10_X1 (hx) (by rfl) ?_
    refine y_getN E dX1_account_143 fl_X1_462_X2 (hst) (by rfl) ?_
    refine y_ireturn E F rfl rfl dX1_account_146 (by omega) (by omega) ⟨ansI_i (by rw [h11]; unfold q_account; (repeat (first | rw [if_pos (by decide)] | rw [if_neg (by decide)])); first | done | rfl), rfl⟩
  · refine y_tsIn (tgt := 147) (off := 136) E dX1_account_11 (by omega) (by omega) (by rw [h11]; rfl) (by decide) ?_
    first | refine y_ald_n E dX1_account_147 (by rfl) ?_ | refine y_aload_n E dX1_account_147 (by rfl) ?_
    refine y_callV E dX1_account_148 lk_X1_465 (c_X1_power hB hx hI hS) (by rfl) (hx) rfl (by decide) (by omega) (by omega) rfl (Nat.le_of_ble_eq_true rfl) ?_ (fun _ _ _ h => h.elim)
    rintro _ _ ⟨rfl, hG9⟩
    rw [hG9]
    clear hG9
    refine y_ireturn E F rfl rfl dX1_account_151 (by omega) (by omega) ⟨ansI_i (by rw [h11]; unfold q_account; repeat (first | rw [if_pos (by decide)] | rw [if_neg (by decide)])), rfl⟩
  · refine y_tsIn (tgt := 152) (off := 141) E dX1_account_11 (by omega) (by omega) (by rw [h11]; rfl) (by decide) ?_
    first | refine y_ald_n E dX1_account_152 (by rfl) ?_ | refine y_aload_n E dX1_account_152 (by rfl) ?_
    refine y_callV E dX1_account_153 lk_X1_467 (c_X1_fogs hx hI hS) (by rfl) (hx) rfl (by decide) (by omega) (by omega) rfl (Nat.le_of_ble_eq_true rfl) ?_ (fun _ _ _ h => h.elim)
    rintro _ _ ⟨rfl, hG9⟩
    rw [hG9]
    clear hG9
    refine y_ireturn E F rfl rfl dX1_account_156 (by omega) (by omega) ⟨ansI_i (by rw [h11]; unfold q_account; repeat (first | rw [if_pos (by decide)] | rw [if_neg (by decide)])), rfl⟩
  · refine y_tsIn (tgt := 157) (off := 146) E dX1_account_11 (by omega) (by omega) (by rw [h11]; rfl) (by decide) ?_
    first | refine y_ald_n E dX1_account_157 (by rfl) ?_ | refine y_aload_n E dX1_account_157 (by rfl) ?_
    refine y_get E dX1_account_158 fl_X1_26_X1 (hx) (by rfl) ?_
    refine y_callV E dX1_account_161 lk_X1_345 (c_J6_length hb) (by rfl) (hbc) rfl (by decide) (by omega) (by omega) rfl (Nat.le_of_ble_eq_true rfl) ?_ (fun _ _ _ h => h.elim)
    rintro _ _ ⟨rfl, hG9⟩
    rw [hG9]
    clear hG9
    rw [← hc1]
    refine y_ireturn E F rfl rfl dX1_account_164 (by omega) (by omega) ⟨ansI_i (by rw [h11]; unfold q_account; repeat (first | rw [if_pos (by decide)] | rw [if_neg (by decide)])), rfl⟩
theorem c_X1_signalsAgain (hB : gB Γ G) (hC : isC Γ G N x C I S T) (hS : SH (T 5)) (hL : LSW (T 5)) {t o : Int} (ht : inR t) (ho : inR o) : Ct_X1_signalsAgain Γ 13 13701 54806 [.ref x, .int (iI t), .int (iI o)] (G) (fun v G' => ansI v (q_sigA (T 5) t o) ∧ G' = G) (fun E G' => xs [eI, eN] (q_sigA (T 5) t o).1 E ∧ G' = G) := by
  refine y_start (lv0 := [some (.ref x), some (.int (iI t)), some (.int (iI o)), none]) (nm := "signalsAgain") (own := RX1) (by decide +kernel) rfl rfl (by exact Nat.le_of_ble_eq_true rfl) (by rfl) ?_
  intro Z Q E F
  have hx := hC.o
  have hI := hC.s
  have hst := hI.1
  have hn := hS.nt
  obtain ⟨w, hw⟩ : ∃ w, w = T 5 := ⟨_, rfl⟩
  rw [← hw] at hI hst hn hS ⊢
  rw [← hw] at hL
  have no : ¬ ((0 ≤ t ∧ t ≤ w 10 - 1) ∧ 0 ≤ o ∧ o ≤ w 10 - 1) → q_sigA w t o = (1, 0) := fun h => if_pos h
  have no2 : (0 ≤ t ∧ t ≤ w 10 - 1) ∧ 0 ≤ o ∧ o ≤ w 10 - 1 → dS w o t < 0 → q_sigA w t o = (2, 0) := fun h g => by unfold q_sigA; rw [if_neg (fun q => q h), if_pos g]
  have yes : (0 ≤ t ∧ t ≤ w 10 - 1) ∧ 0 ≤ o ∧ o ≤ w 10 - 1 → ¬ dS w o t < 0 → q_sigA w t o = (0, dS w o t) := fun h g => by unfold q_sigA; rw [if_neg (fun q => q h), if_neg g]
  have K24 : (0 ≤ t ∧ t ≤ w 10 - 1) ∧ 0 ≤ o ∧ o ≤ w 10 - 1 → Y Γ Z 0 0 Q G 24 [some (.ref x), some (.int (iI t)), some (.int (iI o)), none] [] := by
    intro hto
    obtain ⟨tn, htn⟩ : ∃ tn : Nat, t = tn := ⟨t.toNat, by omega⟩
    have htt : t.toNat = tn := by omega
    have hoo : ((o.toNat : Nat) : Int) = o := by omega
    obtain ⟨c, hcu⟩ : ∃ c : Nat, umk (2 ^ tn) (w 10) = c := ⟨(umk (2 ^ tn) (w 10)).toNat, by have := umk_b (m := 2 ^ tn) (n := w 10) (by omega); omega⟩
    have hc7 := umk_p (t := tn) (n := w 10) (by omega) (by omega)
    have hfc := fcM_7 c (by omega)
    have hp8 : (2 : Nat) ^ tn < 2 ^ 8 := Nat.pow_lt_pow_right (by decide) (by omega)
    have hdr := dS_in (w := w) (o := o) (t := t) (by omega) (by omega)
    first | refine y_ald_n E dX1_signalsAgain_24 (by rfl) ?_ | refine y_aload_n E dX1_signalsAgain_24 (by rfl) ?_
    refine y_get E dX1_signalsAgain_25 fl_X1_10_X1 (hx) (by rfl) ?_
    first | refine y_ald_n E dX1_signalsAgain_28 (by rfl) ?_ | refine y_aload_n E dX1_signalsAgain_28 (by rfl) ?_
    refine y_iload_n E dX1_signalsAgain_29 (by rfl) ?_
    refine y_callV E dX1_signalsAgain_30 lk_X1_189 (c_X1_at hx hI hS (t := t) (by omega) (by omega)) (by rfl) (hx) rfl (by omega) (by omega) (by omega) rfl (Nat.le_of_ble_eq_true rfl) ?_ (fun _ _ _ h => h.elim)
    rintro _ _ ⟨rfl, hG9⟩
    rw [hG9]
    clear hG9
    first | refine y_ald_n E dX1_signalsAgain_33 (by rfl) ?_ | refine y_aload_n E dX1_signalsAgain_33 (by rfl) ?_
    refine y_iload_n E dX1_signalsAgain_34 (by rfl) ?_
    refine y_callV E dX1_signalsAgain_35 lk_X1_189 (c_X1_at hx hI hS (t := o) (by omega) (by omega)) (by rfl) (hx) rfl (by omega) (by omega) (by omega) rfl (Nat.le_of_ble_eq_true rfl) ?_ (fun _ _ _ h => h.elim)
    rintro _ _ ⟨rfl, hG9⟩
    rw [hG9]
    clear hG9
    refine y_iconst E dX1_signalsAgain_38 ?_
    refine y_iload_n E dX1_signalsAgain_39 (by rfl) ?_
    refine y_ishl E dX1_signalsAgain_40 (v := iI ((2 ^ tn : Nat) : Int)) (by rw [htn]; exact tb_shl tn (by omega)) ?_
    rw [htt]
    refine y_callV E dX1_signalsAgain_41 lk_X1_336 (c_X2_fewest hS hL (o := o.toNat) (by omega) c G (2 ^ tn) tn hB hI (by omega) hcu (by omega)) (by rfl) (hst) rfl (by omega) (by omega) (by omega) rfl (Nat.le_of_ble_eq_true rfl) ?_ (fun _ _ _ h => h.elim)
    rintro _ _ ⟨⟨r, rfl, hr⟩, hG9⟩
    rw [hG9]
    clear hG9
    rw [hoo] at hr
    have hre := fw_top (by omega) (by omega) hr
    rw [← htn] at hre
    have hrr : (dS w o t < 0 ∧ r = 8) ∨ (0 ≤ dS w o t ∧ r = dS w o t) := by
      split at hre <;> omega
    refine y_istore_n (j := 3) E dX1_signalsAgain_44 rfl (Nat.le_of_ble_eq_true rfl) ?_
    refine y_iload_n E dX1_signalsAgain_45 (by rfl) ?_
    refine y_bipush E dX1_signalsAgain_46 (by decide) ?_
    refine y_icmp_ge (tgt := 55) E dX1_signalsAgain_48 (by decide) (by omega) (by omega) (fun h48 => ?_) (fun h48 => ?_)
    · refine y_iconst E dX1_signalsAgain_55 ?_
      refine y_callS E dX1_signalsAgain_56 lk_X1_286 (c_X1_checkElement_f) (by rfl) (by omega) (by omega) (by omega) rfl (Nat.le_of_ble_eq_true rfl) (fun _ _ h => h.elim) ?_
      rintro _ _ _ ⟨rfl, rfl⟩
      exact y_xout E F (by omega) (by omega) (⟨xs_1 (okP (no2 hto (by omega))).1, rfl⟩)
    · refine y_iconst E dX1_signalsAgain_51 ?_
      refine y_goto (tgt := 56) E dX1_signalsAgain_52 (by decide) ?_
      refine y_callS E dX1_signalsAgain_56 lk_X1_286 (c_X1_checkElement_t) (by rfl) (by omega) (by omega) (by omega) rfl (Nat.le_of_ble_eq_true rfl) ?_ (fun _ _ _ h => h.elim)
      rintro _ _ ⟨rfl, rfl⟩
      refine y_iload_n E dX1_signalsAgain_59 (by rfl) ?_
      refine y_ireturn E F rfl rfl dX1_signalsAgain_60 (by omega) (by omega) ⟨ansI_i (by rw [yes hto (by omega)]; congr 1; omega), rfl⟩
  first | refine y_ald_n E dX1_signalsAgain_0 (by rfl) ?_ | refine y_aload_n E dX1_signalsAgain_0 (by rfl) ?_
  refine y_iload_n E dX1_signalsAgain_1 (by rfl) ?_
  refine y_callV E dX1_signalsAgain_2 lk_X1_177 (c_X1_isTower hx hI hS ht) (by rfl) (hx) rfl (by omega) (by omega) (by omega) rfl (Nat.le_of_ble_eq_true rfl) ?_ (fun _ _ _ h => h.elim)
  rintro _ _ ⟨rfl, hG9⟩
  rw [hG9]
  clear hG9
  refine y_ifd_eq (tgt := 20) E dX1_signalsAgain_5 (by decide) (fun h5 => ?_) (fun h5 => ?_)
  · refine y_iconst E dX1_signalsAgain_20 ?_
    refine y_callS E dX1_signalsAgain_21 lk_X1_122 (c_X1_checkIndex_f) (by rfl) (by omega) (by omega) (by omega) rfl (Nat.le_of_ble_eq_true rfl) (fun _ _ h => h.elim) ?_
    rintro _ _ _ ⟨rfl, rfl⟩
    exact y_xout E F (by omega) (by omega) (⟨xs_0 (okP (no (fun q => by omega))).1, rfl⟩)
  · first | refine y_ald_n E dX1_signalsAgain_8 (by rfl) ?_ | refine y_aload_n E dX1_signalsAgain_8 (by rfl) ?_
    refine y_iload_n E dX1_signalsAgain_9 (by rfl) ?_
    refine y_callV E dX1_signalsAgain_10 lk_X1_177 (c_X1_isTower hx hI hS ho) (by rfl) (hx) rfl (by omega) (by omega) (by omega) rfl (Nat.le_of_ble_eq_true rfl) ?_ (fun _ _ _ h => h.elim)
    rintro _ _ ⟨rfl, hG9⟩
    rw [hG9]
    clear hG9
    refine y_ifd_eq (tgt := 20) E dX1_signalsAgain_13 (by decide) (fun h13 => ?_) (fun h13 => ?_)
    · refine y_iconst E dX1_signalsAgain_20 ?_
      refine y_callS E dX1_signalsAgain_21 lk_X1_122 (c_X1_checkIndex_f) (by rfl) (by omega) (by omega) (by omega) rfl (Nat.le_of_ble_eq_true rfl) (fun _ _ h => h.elim) ?_
      rintro _ _ _ ⟨rfl, rfl⟩
      exact y_xout E F (by omega) (by omega) (⟨xs_0 (okP (no (fun q => by omega))).1, rfl⟩)
    · refine y_iconst E dX1_signalsAgain_16 ?_
      refine y_goto (tgt := 21) E dX1_signalsAgain_17 (by decide) ?_
      refine y_callS E dX1_signalsAgain_21 lk_X1_122 (c_X1_checkIndex_t) (by rfl) (by omega) (by omega) (by omega) rfl (Nat.le_of_ble_eq_true rfl) ?_ (fun _ _ _ h => h.elim)
      rintro _ _ ⟨rfl, rfl⟩
      exact K24 ⟨by omega, by omega⟩
noncomputable def q_route (w : Int → Int) (a b i : Int) : Int × Int := if ¬ ((0 ≤ a ∧ a ≤ w 10 - 1) ∧ 0 ≤ b ∧ b ≤ w 10 - 1) then (1, 0) else if 0 ≤ dS w b a ∧ 0 ≤ i ∧ i ≤ dS w b a then (0, rtS w b a i) else (2, 0)
theorem c_X1_route (hB : gB Γ G) (hC : isC Γ G N x C I S T) (hS : SH (T 5)) (hO : gOK G) (hL : LSW (T 5)) {t o i : Int} (ht : inR t) (ho : inR o) (hi : inR i) : Ct_X1_route Γ 7 28 122 [.ref x, .int (iI t), .int (iI o), .int (iI i)] (G) (fun v G' => ansI v (q_route (T 5) t o i) ∧ G' = G) (fun E G' => xs [eI, eN] (q_route (T 5) t o i).1 E ∧ G' = G) := by
  refine y_start (lv0 := [some (.ref x), some (.int (iI t)), some (.int (iI o)), some (.int (iI i)), none]) (nm := "route") (own := RX1) (by decide +kernel) rfl rfl (by exact Nat.le_of_ble_eq_true rfl) (by rfl) ?_
  intro Z Q E F
  have hx := hC.o
  have hI := hC.s
  have hst := hI.1
  have hn := hS.nt
  obtain ⟨w, hw⟩ : ∃ w, w = T 5 := ⟨_, rfl⟩
  rw [← hw] at hI hst hn hS ⊢
  rw [← hw] at hL
  have hid := hC.id.1.1
  have no : ¬ ((0 ≤ t ∧ t ≤ w 10 - 1) ∧ 0 ≤ o ∧ o ≤ w 10 - 1) → q_route w t o i = (1, 0) := fun h => if_pos h
  have no2 : (0 ≤ t ∧ t ≤ w 10 - 1) ∧ 0 ≤ o ∧ o ≤ w 10 - 1 → ¬ (0 ≤ dS w o t ∧ 0 ≤ i ∧ i ≤ dS w o t) → q_route w t o i = (2, 0) := fun h g => by unfold q_route; rw [if_neg (fun q => q h), if_neg g]
  have yes : (0 ≤ t ∧ t ≤ w 10 - 1) ∧ 0 ≤ o ∧ o ≤ w 10 - 1 → (0 ≤ dS w o t ∧ 0 ≤ i ∧ i ≤ dS w o t) → q_route w t o i = (0, rtS w o t i) := fun h g => by unfold q_route; rw [if_neg (fun q => q h), if_pos g]
  first | refine y_ald_n E dX1_route_0 (by rfl) ?_ | refine y_aload_n E dX1_route_0 (by rfl) ?_
  refine y_iload_n E dX1_route_1 (by rfl) ?_
  refine y_callV E dX1_route_2 lk_X1_177 (c_X1_isTower hx hI hS ht) (by rfl) (hx) rfl (by decide) (by omega) (by omega) rfl (Nat.le_of_ble_eq_true rfl) ?_ (fun _ _ _ h => h.elim)
  rintro _ _ ⟨rfl, hG9⟩
  rw [hG9]
  clear hG9
  refine y_ifd_eq (tgt := 20) E dX1_route_5 (by decide) (fun h5 => ?_) (fun h5 => ?_)
  · refine y_iconst E dX1_route_20 ?_
    refine y_callS E dX1_route_21 lk_X1_122 (c_X1_checkIndex_f) (by rfl) (by decide) (by omega) (by omega) rfl (Nat.le_of_ble_eq_true rfl) (fun _ _ h => h.elim) ?_
    rintro _ _ _ ⟨rfl, rfl⟩
    exact y_xout E F (by omega) (by omega) (⟨xs_0 (okP (no (fun q => by omega))).1, rfl⟩)
  · first | refine y_ald_n E dX1_route_8 (by rfl) ?_ | refine y_aload_n E dX1_route_8 (by rfl) ?_
    refine y_iload_n E dX1_route_9 (by rfl) ?_
    refine y_callV E dX1_route_10 lk_X1_177 (c_X1_isTower hx hI hS ho) (by rfl) (hx) rfl (by decide) (by omega) (by omega) rfl (Nat.le_of_ble_eq_true rfl) ?_ (fun _ _ _ h => h.elim)
    rintro _ _ ⟨rfl, hG9⟩
    rw [hG9]
    clear hG9
    refine y_ifd_eq (tgt := 20) E dX1_route_13 (by decide) (fun h13 => ?_) (fun h13 => ?_)
    · refine y_iconst E dX1_route_20 ?_
      refine y_callS E dX1_route_21 lk_X1_122 (c_X1_checkIndex_f) (by rfl) (by decide) (by omega) (by omega) rfl (Nat.le_of_ble_eq_true rfl) (fun _ _ h => h.elim) ?_
      rintro _ _ _ ⟨rfl, rfl⟩
      exact y_xout E F (by omega) (by omega) (⟨xs_0 (okP (no (fun q => by omega))).1, rfl⟩)
    · refine y_iconst E dX1_route_16 ?_
      refine y_goto (tgt := 21) E dX1_route_17 (by decide) ?_
      refine y_callS E dX1_route_21 lk_X1_122 (c_X1_checkIndex_t) (by rfl) (by decide) (by omega) (by omega) rfl (Nat.le_of_ble_eq_true rfl) ?_ (fun _ _ _ h => h.elim)
      rintro _ _ ⟨rfl, rfl⟩
      first | refine y_ald_n E dX1_route_24 (by rfl) ?_ | refine y_aload_n E dX1_route_24 (by rfl) ?_
      refine y_get E dX1_route_25 fl_X1_10_X1 (hx) (by rfl) ?_
      first | refine y_ald_n E dX1_route_28 (by rfl) ?_ | refine y_aload_n E dX1_route_28 (by rfl) ?_
      refine y_iload_n E dX1_route_29 (by rfl) ?_
      refine y_callV E dX1_route_30 lk_X1_189 (c_X1_at hx hI hS (t := t) (by omega) (by omega)) (by rfl) (hx) rfl (by decide) (by omega) (by omega) rfl (Nat.le_of_ble_eq_true rfl) ?_ (fun _ _ _ h => h.elim)
      rintro _ _ ⟨rfl, hG9⟩
      rw [hG9]
      clear hG9
      first | refine y_ald_n E dX1_route_33 (by rfl) ?_ | refine y_aload_n E dX1_route_33 (by rfl) ?_
      refine y_iload_n E dX1_route_34 (by rfl) ?_
      refine y_callV E dX1_route_35 lk_X1_189 (c_X1_at hx hI hS (t := o) (by omega) (by omega)) (by rfl) (hx) rfl (by decide) (by omega) (by omega) rfl (Nat.le_of_ble_eq_true rfl) ?_ (fun _ _ _ h => h.elim)
      rintro _ _ ⟨rfl, hG9⟩
      rw [hG9]
      clear hG9
      refine y_callV E dX1_route_38 lk_X1_340 (c_X2_route (by omega) hB hO hI hS hL (t := t.toNat) (o := o.toNat) (by omega) (by omega)) (by rfl) (hst) rfl (by decide) (by omega) (by omega) rfl (Nat.le_of_ble_eq_true rfl) ?_ (fun _ _ _ h => h.elim)
      rintro _ G1 ⟨q, rfl, hll, hE⟩
      rw [show ((t.toNat : Nat) : Int) = t by omega, show ((o.toNat : Nat) : Int) = o by omega] at hll
      obtain ⟨flc, hlc⟩ := hll.c
      have hdr := dS_in (w := w) (o := o) (t := t) (by omega) (by omega)
      have hlen : ((((rtN S w o t (dS w o t + 1).toNat).map some).length : Nat) : Int) = dS w o t + 1 := by simp [rtN]; omega
      first | refine y_ast E dX1_route_41 (Nat.le_of_ble_eq_true rfl) ?_ | refine y_astore E dX1_route_41 (Nat.le_of_ble_eq_true rfl) ?_ | refine y_astore (r := none) E dX1_route_41 (Nat.le_of_ble_eq_true rfl) ?_
      refine y_iload_n E dX1_route_43 (by rfl) ?_
      refine y_iconst E dX1_route_44 ?_
      first | refine y_ald E dX1_route_45 (by rfl) ?_ | refine y_aload E dX1_route_45 (by rfl) ?_
      refine y_callV E dX1_route_47 lk_X1_107 (c_J4_size hll) (by rfl) (hlc) rfl (by decide) (by omega) (by omega) rfl (Nat.le_of_ble_eq_true rfl) ?_ (fun _ _ _ h => h.elim)
      rintro _ _ ⟨rfl, hG9⟩
      rw [hG9]
      clear hG9
      rw [hlen]
      refine y_iconst E dX1_route_50 ?_
      refine y_isub E dX1_route_51 ?_
      refine y_callS E dX1_route_52 lk_X1_85 (c_X1_isBetween hi (by omega) (by omega)) (by rfl) (by decide) (by omega) (by omega) rfl (Nat.le_of_ble_eq_true rfl) ?_ (fun _ _ _ h => h.elim)
      rintro _ _ ⟨rfl, hG9⟩
      rw [hG9]
      clear hG9
      refine y_callS E dX1_route_55 lk_X1_286 (c_X1_checkElement_b) (by rfl) (by decide) (by omega) (by omega) rfl (Nat.le_of_ble_eq_true rfl) ?_ ?_
      swap
      · rintro _ _ _ ⟨rfl, h55, rfl⟩
        exact y_forgetX (hE) (y_xout E F (by omega) (by omega) (⟨xs_1 (okP (no2 ⟨by omega, by omega⟩ (fun q => by omega))).1, rfl⟩))
      rintro _ _ ⟨rfl, h55, rfl⟩
      have hga : ((rtN S w o t (dS w o t + 1).toNat).map some)[i.toNat]? = some (some (sTa S (rtS w o t i).toNat)) := by
        unfold rtN
        rw [List.getElem?_map, List.getElem?_map, List.getElem?_range (by omega)]
        show some (some (sTa S (rtS w o t ((i.toNat : Nat) : Int)).toNat)) = _
        rw [show ((i.toNat : Nat) : Int) = i by omega]
      have hrr := (rtS_ok (w := w) (o := o) (t := t) (by omega) (by omega) (by omega) i (by omega) (by omega)).1
      have htw := isST_t (hI.e hB hE) (t := (rtS w o t i).toNat) (by omega)
      unfold twX twE at htw
      first | refine y_ald E dX1_route_58 (by rfl) ?_ | refine y_aload E dX1_route_58 (by rfl) ?_
      refine y_iload_n E dX1_route_60 (by rfl) ?_
      rw [show i = ((i.toNat : Nat) : Int) by omega]
      refine y_callV E dX1_route_61 lk_X1_344 (c_J4_get (i := i.toNat) hll hga (by omega)) (by rfl) (hlc) rfl (by decide) (by omega) (by omega) rfl (Nat.le_of_ble_eq_true rfl) ?_ (fun _ _ _ h => h.elim)
      rintro _ _ ⟨rfl, hG9⟩
      rw [hG9]
      clear hG9
      refine y_ccast E dX1_route_64 q1200 (htw) rfl (Or.inl rfl) ?_
      refine y_getN E dX1_route_67 fl_X1_150_X6 (htw) (by rfl) ?_
      refine y_forget hE ?_
      refine y_ireturn E F rfl rfl dX1_route_70 (by omega) (by omega) ⟨ansI_i (by rw [yes ⟨by omega, by omega⟩ ⟨by omega, by omega, by omega⟩, show (((rtS w o t i).toNat : Nat) : Int) = rtS w o t i by omega]), rfl⟩
end X1o
