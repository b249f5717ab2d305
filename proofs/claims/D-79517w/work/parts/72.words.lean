/-! ===== the twin: words ===== -/
section Wd
def wordP (T : Nat → Int → Int) : Prop := (∀ k, 0 ≤ k → k < T 17 0 → 97 ≤ T 15 k ∧ T 15 k ≤ 122) ∧ 1 ≤ T 17 0 ∧ T 17 0 ≤ 24
/-- letters that are lost by a signal: from the place k on, each by places, sv of them saved -/
def sgF : Nat → Int → Int → Int → Int → (Int → Int) → (Int → Int)
  | 0, _, _, _, _, x => x
  | f + 1, k, d, sv, n, x => if k ≤ n then (if x (k - 1) = 63 then sgF f (k + d) d sv n x else if sv = 0 then sgF f (k + d) d 0 n (upI x (k - 1) 63) else sgF f (k + d) d (sv - 1) n x) else x
noncomputable def sgS (w : Int → Int) (a b n : Int) (x : Int → Int) : Int → Int := if marS w a b + 2 < 12 then opq 17 (sgF 24) (marS w a b + 2) (marS w a b + 2) (tw w b 2) n x else x
/-- a row of letters -/
def LW (x : Int → Int) : Prop := ∀ k, 0 ≤ k → k < 24 → 0 ≤ x k ∧ x k ≤ 126
theorem LW_up {x : Int → Int} (h : LW x) {k v : Int} (hv : 0 ≤ v ∧ v ≤ 126) : LW (upI x k v) := fun j j0 j1 => by
  by_cases e : j = k
  · subst e
    rw [upI_s]
    exact hv
  · rw [upI_n _ e]
    exact h j j0 j1
theorem sgF_LW : ∀ (f : Nat) {k d sv n : Int} {x : Int → Int}, LW x → LW (sgF f k d sv n x)
  | 0, _, _, _, _, _, h => h
  | f + 1, k, d, sv, n, x, h => by
    simp only [sgF]
    split
    · split
      · exact sgF_LW f h
      · split
        · exact sgF_LW f (LW_up h (by omega))
        · exact sgF_LW f h
    · exact h
theorem sgS_LW {w : Int → Int} {a b n : Int} {x : Int → Int} (h : LW x) : LW (sgS w a b n x) := by
  unfold sgS
  split
  · rw [opq_eq]
    exact sgF_LW 24 h
  · exact h
/-- a word on its route -/
noncomputable def sndS (w : Int → Int) (a b n : Int) (i : Int) (x : Int → Int) : Int → Int := itI (fun i x => sgS w (rtS w b a i) (rtS w b a (i + 1)) n x) i x
theorem sndS_LW {w : Int → Int} {a b n : Int} {x : Int → Int} (h : LW x) : ∀ i, 0 ≤ i → LW (sndS w a b n i x) := by
  apply intUp
  · unfold sndS
    rw [itI_0]
    exact h
  · intro i hi ih
    unfold sndS
    rw [itI_s hi]
    exact sgS_LW ih
theorem mar0 {w : Int → Int} {a b : Int} (h : csP w a b) : 0 ≤ marS w a b := by
  have := h.2.2.2.2.2
  unfold marS
  omega
noncomputable def o_send (T : Nat → Int → Int) (a b : Int) : Int × (Nat → Int → Int) := if ¬ ((0 ≤ a ∧ a ≤ T 5 10 - 1) ∧ 0 ≤ b ∧ b ≤ T 5 10 - 1) then (0, failT T 1) else if dB (wordP T) = false then (0, upN (upN (upN T 0 (fun _ => 0)) 17 (fun _ => 0)) 0 (fun _ => 2)) else if dS (T 5) b a < 0 then (0, refT (upN (upN (frT (upN (upN T 0 (fun _ => 0)) 17 (fun _ => 0)) a b) 1 (fun _ => 9)) 2 (fun _ => 0)) 3) else (lostS (upN (upN T 18 (fun _ => T 17 0)) 16 (sndS (T 5) a b (T 17 0) (dS (T 5) b a) (cpy (T 15) (T 16) 0 (T 17 0)))), upN (upN (frT (upN (upN T 0 (fun _ => 0)) 17 (fun _ => 0)) a b) 18 (fun _ => T 17 0)) 16 (sndS (T 5) a b (T 17 0) (dS (T 5) b a) (cpy (T 15) (T 16) 0 (T 17 0))))
theorem lostS_c {T V : Nat → Int → Int} (h1 : T 16 = V 16) (h2 : T 18 0 = V 18 0) : lostS T = lostS V := by
  unfold lostS
  rw [h1, h2]
end Wd
section Tw12
variable {Γ : yG} {A : Nat → Nat} {T : Nat → Int → Int} {G : yH}
set_option maxHeartbeats 4000000
theorem m_isWordIn (hA : mA A) (hl : 0 ≤ T 17 0 ∧ T 17 0 ≤ 60) (hi : ∀ k, 0 ≤ k → k < 60 → 0 ≤ T 15 k ∧ T 15 k ≤ 126) : Ct_X3_isWordIn Γ 2 0 0 [.ref (A 0)] (mH A T G) (fun v G' => v = some (.int (iI (b2i (dB (wordP T))))) ∧ G' = mH A T G) noX := by
  refine y_start (lv0 := [some (.ref (A 0)), none]) (nm := "isWordIn") (own := RX3) (by decide +kernel) rfl rfl (by exact Nat.le_of_ble_eq_true rfl) (by rfl) ?_
  intro Z Q E F
  have loop : ∀ i : Int, 0 ≤ i → i ≤ T 17 0 → (∀ j, 0 ≤ j → j < i → 97 ≤ T 15 j ∧ T 15 j ≤ 122) → Y Γ Z 0 0 Q (mH A T G) 2 [some (.ref (A 0)), some (.int (iI i))] [] := by
    refine loopDown (T 17 0) ?_
    intro i ih h0 h1 hj
    have hii := fun h : i < 60 => hi i h0 h
    refine y_iload_n E dX3_isWordIn_2 (by rfl) ?_
    first | refine y_ald_n E dX3_isWordIn_3 (by rfl) ?_ | refine y_aload_n E dX3_isWordIn_3 (by rfl) ?_
    refine y_get E dX3_isWordIn_4 fl_X3_231_X3 (m_o hA _ _) (by rfl) ?_
    refine y_icmp_ge (tgt := 34) E dX3_isWordIn_7 (by decide) (by omega) (by omega) (fun h7 => ?_) (fun h7 => ?_)
    · first | refine y_ald_n E dX3_isWordIn_34 (by rfl) ?_ | refine y_aload_n E dX3_isWordIn_34 (by rfl) ?_
      refine y_get E dX3_isWordIn_35 fl_X3_231_X3 (m_o hA _ _) (by rfl) ?_
      refine y_iconst E dX3_isWordIn_38 ?_
      refine y_bipush E dX3_isWordIn_39 (by decide) ?_
      refine y_callS E dX3_isWordIn_41 lk_X3_77 (m_isBetween ?_ ?_ ?_) (by rfl) (by decide) (by omega) (by omega) rfl (Nat.le_of_ble_eq_true rfl) ?_ (fun _ _ _ h => h.elim)
      · first | omega | (simp (decide := true) only [upN_s, upN_n, upN_upN, upN_id, remT_5, remT_8] <;> omega)
      · first | omega | (simp (decide := true) only [upN_s, upN_n, upN_upN, upN_id, remT_5, remT_8] <;> omega)
      · first | omega | (simp (decide := true) only [upN_s, upN_n, upN_upN, upN_id, remT_5, remT_8] <;> omega)
      rintro _ _ ⟨rfl, rfl⟩
      refine y_ireturn E F rfl (nar_b _) dX3_isWordIn_44 (by omega) (by omega) ⟨rB ⟨fun q => ⟨fun k k0 k1 => hj k k0 (by omega), q⟩, fun q => q.2⟩, rfl⟩
    · first | refine y_ald_n E dX3_isWordIn_10 (by rfl) ?_ | refine y_aload_n E dX3_isWordIn_10 (by rfl) ?_
      refine y_get E dX3_isWordIn_11 fl_X3_31_X3 (m_o hA _ _) (by rfl) ?_
      refine y_iload_n E dX3_isWordIn_14 (by rfl) ?_
      refine y_cald E dX3_isWordIn_15 (m_r15 hA _ _) (by omega) ?_
      have hii := hii (by omega)
      refine y_bipush E dX3_isWordIn_16 (by decide) ?_
      refine y_bipush E dX3_isWordIn_18 (by decide) ?_
      refine y_callS E dX3_isWordIn_20 lk_X3_77 (m_isBetween ?_ ?_ ?_) (by rfl) (by decide) (by omega) (by omega) rfl (Nat.le_of_ble_eq_true rfl) ?_ (fun _ _ _ h => h.elim)
      · first | omega | (simp (decide := true) only [upN_s, upN_n, upN_upN, upN_id, remT_5, remT_8] <;> omega)
      · first | omega | (simp (decide := true) only [upN_s, upN_n, upN_upN, upN_id, remT_5, remT_8] <;> omega)
      · first | omega | (simp (decide := true) only [upN_s, upN_n, upN_upN, upN_id, remT_5, remT_8] <;> omega)
      rintro _ _ ⟨rfl, rfl⟩
      refine y_ifd_ne (tgt := 28) E dX3_isWordIn_23 (by decide) (fun h23 => ?_) (fun h23 => ?_)
      · refine y_iinc E dX3_isWordIn_28 (by rfl) ?_
        refine y_goto (tgt := 2) E dX3_isWordIn_31 (by decide) ?_
        refine ih (by omega) (by omega) (by omega) (fun j j0 j1 => ?_)
        by_cases e : j = i
        · subst e
          exact h23
        · exact hj j j0 (by omega)
      · refine y_iconst E dX3_isWordIn_26 ?_
        refine y_ireturn E F rfl rfl dX3_isWordIn_27 (by omega) (by omega) ⟨rF (fun q => h23 (q.1 i h0 (by omega))), rfl⟩
  refine y_iconst E dX3_isWordIn_0 ?_
  refine y_istore_n (j := 1) E dX3_isWordIn_1 rfl (Nat.le_of_ble_eq_true rfl) ?_
  exact loop 0 (by omega) (by omega) (fun j j0 j1 => by omega)
theorem m_goesSignal (hA : mA A) (hS : SH (T 5)) (hl : 0 ≤ T 18 0 ∧ T 18 0 ≤ 24) (hw : LW (T 16)) {a b : Int} (ha : 0 ≤ a ∧ a < 8) (hb : 0 ≤ b ∧ b < 8) (hm : 0 ≤ marS (T 5) a b) : Ct_X3_goesSignal Γ 5 0 0 [.ref (A 0), .int (iI (a)), .int (iI (b))] (mH A T G) (fun v G' => v = none ∧ G' = mH A (upN T 16 (sgS (T 5) a b (T 18 0) (T 16))) G) noX := by
  refine y_start (lv0 := [some (.ref (A 0)), some (.int (iI (a))), some (.int (iI (b))), none, none, none]) (nm := "goesSignal") (own := RX3) (by decide +kernel) rfl rfl (by exact Nat.le_of_ble_eq_true rfl) (by rfl) ?_
  intro Z Q E F
  have hSb := hS.t hb.1 hb.2
  have hSa := hS.t ha.1 ha.2
  have hmx : marS (T 5) a b ≤ 1000 := by
    have h1 := hS.pow ha.1 ha.2
    have h2 := hS.cost (a := tw (T 5) a 0) (b := tw (T 5) b 0) (by omega) (by omega)
    unfold marS
    omega
  have loop : marS (T 5) a b + 2 < 12 → ∀ (f : Nat) (k sv : Int) (x : Int → Int), LW x → 1 ≤ k → 25 - k < f → k ≤ 100 → 0 ≤ sv → sv ≤ 9 → sgF f k (marS (T 5) a b + 2) sv (T 18 0) x = sgS (T 5) a b (T 18 0) (T 16) → Y Γ Z 0 0 Q (mH A (upN T 16 x) G) 20 [some (.ref (A 0)), some (.int (iI a)), some (.int (iI b)), some (.int (iI (marS (T 5) a b + 2))), some (.int (iI sv)), some (.int (iI k))] [] := by
    intro hm12 f
    induction f with
    | zero =>
      intro k sv x hx h0 h1 h2 h3 h4 hfin
      refine y_iload E dX3_goesSignal_20 (by rfl) ?_
      first | refine y_ald_n E dX3_goesSignal_22 (by rfl) ?_ | refine y_aload_n E dX3_goesSignal_22 (by rfl) ?_
      refine y_get E dX3_goesSignal_23 fl_X3_234_X3 (m_o hA _ _) (by rfl) ?_
      try simp (decide := true) only [upN_s, upN_n, upN_upN, upN_id, remT_5, remT_8]
      refine y_icmp_gt (tgt := 92) E dX3_goesSignal_26 (by decide) (by omega) (by omega) (fun h26 => ?_) (fun h26 => ?_)
      · refine y_return E F rfl dX3_goesSignal_92 (by omega) (by omega) ⟨rfl, by rw [← hfin]; rfl⟩
      · exfalso
        omega
    | succ f ih =>
      intro k sv x hx h0 h1 h2 h3 h4 hfin
      simp only [sgF] at hfin
      have hxk := fun h : k ≤ 24 => hx (k - 1) (by omega) (by omega)
      refine y_iload E dX3_goesSignal_20 (by rfl) ?_
      first | refine y_ald_n E dX3_goesSignal_22 (by rfl) ?_ | refine y_aload_n E dX3_goesSignal_22 (by rfl) ?_
      refine y_get E dX3_goesSignal_23 fl_X3_234_X3 (m_o hA _ _) (by rfl) ?_
      try simp (decide := true) only [upN_s, upN_n, upN_upN, upN_id, remT_5, remT_8]
      refine y_icmp_gt (tgt := 92) E dX3_goesSignal_26 (by decide) (by omega) (by omega) (fun h26 => ?_) (fun h26 => ?_)
      · refine y_return E F rfl dX3_goesSignal_92 (by omega) (by omega) ⟨rfl, by first | (rw [if_neg (by omega)] at hfin; rw [hfin]) | (exfalso; omega)⟩
      · refine y_iload_n E dX3_goesSignal_29 (by rfl) ?_
        refine y_bipush E dX3_goesSignal_30 (by decide) ?_
        refine y_icmp_ge (tgt := 92) E dX3_goesSignal_32 (by decide) (by omega) (by omega) (fun h32 => ?_) (fun h32 => ?_)
        · refine y_return E F rfl dX3_goesSignal_92 (by omega) (by omega) ⟨rfl, by first | (rw [if_neg (by omega)] at hfin; rw [hfin]) | (exfalso; omega)⟩
        · have hxk := hxk (by omega)
          rw [if_pos (by omega)] at hfin
          first | refine y_ald_n E dX3_goesSignal_35 (by rfl) ?_ | refine y_aload_n E dX3_goesSignal_35 (by rfl) ?_
          refine y_get E dX3_goesSignal_36 fl_X3_35_X3 (m_o hA _ _) (by rfl) ?_
          refine y_iload E dX3_goesSignal_39 (by rfl) ?_
          refine y_iconst E dX3_goesSignal_41 ?_
          refine y_isub E dX3_goesSignal_42 ?_
          refine y_cald E dX3_goesSignal_43 (m_r16 hA _ _) (by omega) ?_
          try simp (decide := true) only [upN_s, upN_n, upN_upN, upN_id, remT_5, remT_8]
          refine y_bipush E dX3_goesSignal_44 (by decide) ?_
          refine y_icmp_ne (tgt := 52) E dX3_goesSignal_46 (by decide) (by omega) (by omega) (fun h46 => ?_) (fun h46 => ?_)
          · refine y_iload E dX3_goesSignal_52 (by rfl) ?_
            refine y_if_ne (tgt := 68) E dX3_goesSignal_54 (by decide) (by omega) (fun h54 => ?_) (fun h54 => ?_)
            · refine y_iload E dX3_goesSignal_68 (by rfl) ?_
              refine y_iload E dX3_goesSignal_70 (by rfl) ?_
              refine y_if_le (tgt := 79) E dX3_goesSignal_72 (by decide) (by omega) (fun h72 => ?_) (fun h72 => ?_)
              · refine y_iconst E dX3_goesSignal_79 ?_
                refine y_isub E dX3_goesSignal_80 ?_
                refine y_istore E dX3_goesSignal_81 (Nat.le_of_ble_eq_true rfl) ?_
                refine y_iload E dX3_goesSignal_83 (by rfl) ?_
                refine y_iload_n E dX3_goesSignal_85 (by rfl) ?_
                refine y_iadd E dX3_goesSignal_86 ?_
                refine y_istore E dX3_goesSignal_87 (Nat.le_of_ble_eq_true rfl) ?_
                refine y_goto (tgt := 20) E dX3_goesSignal_89 (by decide) ?_
                first
                  | (exfalso; omega)
                  | exact ih _ _ _ hx (by omega) (by omega) (by omega) (by omega) (by omega) (by rw [if_pos (by omega)] at hfin; exact hfin)
                  | exact ih _ _ _ (LW_up hx (by omega)) (by omega) (by omega) (by omega) (by omega) (by omega) (by rw [if_neg (by omega), if_pos (by omega)] at hfin; rw [show sv - 0 = 0 by omega]; exact hfin)
                  | exact ih _ _ _ hx (by omega) (by omega) (by omega) (by omega) (by omega) (by rw [if_neg (by omega), if_neg (by omega)] at hfin; exact hfin)
              · refine y_iconst E dX3_goesSignal_75 ?_
                refine y_goto (tgt := 80) E dX3_goesSignal_76 (by decide) ?_
                refine y_isub E dX3_goesSignal_80 ?_
                refine y_istore E dX3_goesSignal_81 (Nat.le_of_ble_eq_true rfl) ?_
                refine y_iload E dX3_goesSignal_83 (by rfl) ?_
                refine y_iload_n E dX3_goesSignal_85 (by rfl) ?_
                refine y_iadd E dX3_goesSignal_86 ?_
                refine y_istore E dX3_goesSignal_87 (Nat.le_of_ble_eq_true rfl) ?_
                refine y_goto (tgt := 20) E dX3_goesSignal_89 (by decide) ?_
                first
                  | (exfalso; omega)
                  | exact ih _ _ _ hx (by omega) (by omega) (by omega) (by omega) (by omega) (by rw [if_pos (by omega)] at hfin; exact hfin)
                  | exact ih _ _ _ (LW_up hx (by omega)) (by omega) (by omega) (by omega) (by omega) (by omega) (by rw [if_neg (by omega), if_pos (by omega)] at hfin; rw [show sv - 0 = 0 by omega]; exact hfin)
                  | exact ih _ _ _ hx (by omega) (by omega) (by omega) (by omega) (by omega) (by rw [if_neg (by omega), if_neg (by omega)] at hfin; exact hfin)
            · first | refine y_ald_n E dX3_goesSignal_57 (by rfl) ?_ | refine y_aload_n E dX3_goesSignal_57 (by rfl) ?_
              refine y_get E dX3_goesSignal_58 fl_X3_35_X3 (m_o hA _ _) (by rfl) ?_
              refine y_iload E dX3_goesSignal_61 (by rfl) ?_
              refine y_iconst E dX3_goesSignal_63 ?_
              refine y_isub E dX3_goesSignal_64 ?_
              refine y_bipush E dX3_goesSignal_65 (by decide) ?_
              refine y_cast E dX3_goesSignal_67 (m_r16 hA _ _) (by omega) (nar_c (by omega)) ?_
              refine y_heap (m_w16 hA) ?_
              try simp (decide := true) only [upN_s, upN_n, upN_upN, upN_id, remT_5, remT_8]
              refine y_iload E dX3_goesSignal_68 (by rfl) ?_
              refine y_iload E dX3_goesSignal_70 (by rfl) ?_
              refine y_if_le (tgt := 79) E dX3_goesSignal_72 (by decide) (by omega) (fun h72 => ?_) (fun h72 => ?_)
              · refine y_iconst E dX3_goesSignal_79 ?_
                refine y_isub E dX3_goesSignal_80 ?_
                refine y_istore E dX3_goesSignal_81 (Nat.le_of_ble_eq_true rfl) ?_
                refine y_iload E dX3_goesSignal_83 (by rfl) ?_
                refine y_iload_n E dX3_goesSignal_85 (by rfl) ?_
                refine y_iadd E dX3_goesSignal_86 ?_
                refine y_istore E dX3_goesSignal_87 (Nat.le_of_ble_eq_true rfl) ?_
                refine y_goto (tgt := 20) E dX3_goesSignal_89 (by decide) ?_
                first
                  | (exfalso; omega)
                  | exact ih _ _ _ hx (by omega) (by omega) (by omega) (by omega) (by omega) (by rw [if_pos (by omega)] at hfin; exact hfin)
                  | exact ih _ _ _ (LW_up hx (by omega)) (by omega) (by omega) (by omega) (by omega) (by omega) (by rw [if_neg (by omega), if_pos (by omega)] at hfin; rw [show sv - 0 = 0 by omega]; exact hfin)
                  | exact ih _ _ _ hx (by omega) (by omega) (by omega) (by omega) (by omega) (by rw [if_neg (by omega), if_neg (by omega)] at hfin; exact hfin)
              · refine y_iconst E dX3_goesSignal_75 ?_
                refine y_goto (tgt := 80) E dX3_goesSignal_76 (by decide) ?_
                refine y_isub E dX3_goesSignal_80 ?_
                refine y_istore E dX3_goesSignal_81 (Nat.le_of_ble_eq_true rfl) ?_
                refine y_iload E dX3_goesSignal_83 (by rfl) ?_
                refine y_iload_n E dX3_goesSignal_85 (by rfl) ?_
                refine y_iadd E dX3_goesSignal_86 ?_
                refine y_istore E dX3_goesSignal_87 (Nat.le_of_ble_eq_true rfl) ?_
                refine y_goto (tgt := 20) E dX3_goesSignal_89 (by decide) ?_
                first
                  | (exfalso; omega)
                  | exact ih _ _ _ hx (by omega) (by omega) (by omega) (by omega) (by omega) (by rw [if_pos (by omega)] at hfin; exact hfin)
                  | exact ih _ _ _ (LW_up hx (by omega)) (by omega) (by omega) (by omega) (by omega) (by omega) (by rw [if_neg (by omega), if_pos (by omega)] at hfin; rw [show sv - 0 = 0 by omega]; exact hfin)
                  | exact ih _ _ _ hx (by omega) (by omega) (by omega) (by omega) (by omega) (by rw [if_neg (by omega), if_neg (by omega)] at hfin; exact hfin)
          · refine y_goto (tgt := 83) E dX3_goesSignal_49 (by decide) ?_
            refine y_iload E dX3_goesSignal_83 (by rfl) ?_
            refine y_iload_n E dX3_goesSignal_85 (by rfl) ?_
            refine y_iadd E dX3_goesSignal_86 ?_
            refine y_istore E dX3_goesSignal_87 (Nat.le_of_ble_eq_true rfl) ?_
            refine y_goto (tgt := 20) E dX3_goesSignal_89 (by decide) ?_
            first
              | (exfalso; omega)
              | exact ih _ _ _ hx (by omega) (by omega) (by omega) (by omega) (by omega) (by rw [if_pos (by omega)] at hfin; exact hfin)
              | exact ih _ _ _ (LW_up hx (by omega)) (by omega) (by omega) (by omega) (by omega) (by omega) (by rw [if_neg (by omega), if_pos (by omega)] at hfin; rw [show sv - 0 = 0 by omega]; exact hfin)
              | exact ih _ _ _ hx (by omega) (by omega) (by omega) (by omega) (by omega) (by rw [if_neg (by omega), if_neg (by omega)] at hfin; exact hfin)
  have noloop : ¬ marS (T 5) a b + 2 < 12 → Y Γ Z 0 0 Q (mH A T G) 20 [some (.ref (A 0)), some (.int (iI a)), some (.int (iI b)), some (.int (iI (marS (T 5) a b + 2))), some (.int (iI (tw (T 5) b 2))), some (.int (iI (marS (T 5) a b + 2)))] [] := by
    intro h12
    have e : sgS (T 5) a b (T 18 0) (T 16) = T 16 := by unfold sgS; rw [if_neg h12]
    refine y_iload E dX3_goesSignal_20 (by rfl) ?_
    first | refine y_ald_n E dX3_goesSignal_22 (by rfl) ?_ | refine y_aload_n E dX3_goesSignal_22 (by rfl) ?_
    refine y_get E dX3_goesSignal_23 fl_X3_234_X3 (m_o hA _ _) (by rfl) ?_
    refine y_icmp_gt (tgt := 92) E dX3_goesSignal_26 (by decide) (by omega) (by omega) (fun h26 => ?_) (fun h26 => ?_)
    · refine y_return E F rfl dX3_goesSignal_92 (by omega) (by omega) ⟨rfl, by rw [e, upN_id]⟩
    · refine y_iload_n E dX3_goesSignal_29 (by rfl) ?_
      refine y_bipush E dX3_goesSignal_30 (by decide) ?_
      refine y_icmp_ge (tgt := 92) E dX3_goesSignal_32 (by decide) (by omega) (by omega) (fun h32 => ?_) (fun h32 => ?_)
      · refine y_return E F rfl dX3_goesSignal_92 (by omega) (by omega) ⟨rfl, by rw [e, upN_id]⟩
      · first | refine y_ald_n E dX3_goesSignal_35 (by rfl) ?_ | refine y_aload_n E dX3_goesSignal_35 (by rfl) ?_
        exfalso
        omega
  first | refine y_ald_n E dX3_goesSignal_0 (by rfl) ?_ | refine y_aload_n E dX3_goesSignal_0 (by rfl) ?_
  refine y_iload_n E dX3_goesSignal_1 (by rfl) ?_
  refine y_iload_n E dX3_goesSignal_2 (by rfl) ?_
  refine y_callV E dX3_goesSignal_3 lk_X3_216 (m_marginOf hA ?_ ?_ ?_) (by rfl) (m_o hA _ _) rfl (by decide) (by omega) (by omega) rfl (Nat.le_of_ble_eq_true rfl) ?_ (fun _ _ _ h => h.elim)
  · exact hS
  · first | omega | (simp (decide := true) only [upN_s, upN_n, upN_upN, upN_id, remT_5, remT_8] <;> omega)
  · first | omega | (simp (decide := true) only [upN_s, upN_n, upN_upN, upN_id, remT_5, remT_8] <;> omega)
  rintro _ _ ⟨rfl, rfl⟩
  refine y_iconst E dX3_goesSignal_6 ?_
  refine y_iadd E dX3_goesSignal_7 ?_
  refine y_istore_n (j := 3) E dX3_goesSignal_8 rfl (Nat.le_of_ble_eq_true rfl) ?_
  first | refine y_ald_n E dX3_goesSignal_9 (by rfl) ?_ | refine y_aload_n E dX3_goesSignal_9 (by rfl) ?_
  refine y_iload_n E dX3_goesSignal_10 (by rfl) ?_
  refine y_iconst E dX3_goesSignal_11 ?_
  refine y_callV E dX3_goesSignal_12 lk_X3_81 (m_ofTower hA ?_ ?_) (by rfl) (m_o hA _ _) rfl (by decide) (by omega) (by omega) rfl (Nat.le_of_ble_eq_true rfl) ?_ (fun _ _ _ h => h.elim)
  · first | omega | (simp (decide := true) only [upN_s, upN_n, upN_upN, upN_id, remT_5, remT_8] <;> omega)
  · first | omega | (simp (decide := true) only [upN_s, upN_n, upN_upN, upN_id, remT_5, remT_8] <;> omega)
  rintro _ _ ⟨rfl, rfl⟩
  refine y_istore E dX3_goesSignal_15 (Nat.le_of_ble_eq_true rfl) ?_
  refine y_iload_n E dX3_goesSignal_17 (by rfl) ?_
  refine y_istore E dX3_goesSignal_18 (Nat.le_of_ble_eq_true rfl) ?_
  by_cases h12 : marS (T 5) a b + 2 < 12
  · refine y_heap (show _ = mH A (upN T 16 (T 16)) G from by rw [upN_id]) (loop h12 24 _ _ (T 16) hw (by omega) (by omega) (by omega) (by omega) (by omega) (by unfold sgS; rw [if_pos h12, opq_eq]))
  · exact noloop h12
theorem m_send (hA : mA A) (hS : SH (T 5)) (hl : 0 ≤ T 17 0 ∧ T 17 0 ≤ 60) (hi : ∀ k, 0 ≤ k → k < 60 → 0 ≤ T 15 k ∧ T 15 k ≤ 126) (hw : LW (T 16)) {a b : Int} (ha : inR a) (hb : inR b) : Ct_X3_send Γ 8 0 0 [.ref (A 0), .int (iI (a)), .int (iI (b))] (mH A T G) (fun v G' => v = some (.int (iI ((o_send T a b).1))) ∧ G' = mH A ((o_send T a b).2) G) noX := by
  refine y_start (lv0 := [some (.ref (A 0)), some (.int (iI (a))), some (.int (iI (b))), none, none, none]) (nm := "send") (own := RX3) (by decide +kernel) rfl rfl (by exact Nat.le_of_ble_eq_true rfl) (by rfl) ?_
  intro Z Q E F
  have hn := hS.nt
  have walk2 : (0 ≤ a ∧ a ≤ T 5 10 - 1) → (0 ≤ b ∧ b ≤ T 5 10 - 1) → wordP T → 0 ≤ dS (T 5) b a → ∀ F0 : Nat → Int → Int, (∀ k, k ≠ 0 → k ≠ 12 → k ≠ 13 → k ≠ 14 → k ≠ 17 → F0 k = T k) → F0 14 0 = dS (T 5) b a → (∀ j, 0 ≤ j → j ≤ dS (T 5) b a → F0 13 j = rtS (T 5) b a j) → F0 = frT (upN (upN T 0 (fun _ => 0)) 17 (fun _ => 0)) a b → ∀ i : Int, ∀ x : Int → Int, LW x → x = sndS (T 5) a b (T 17 0) i (cpy (T 15) (T 16) 0 (T 17 0)) → 0 ≤ i → i ≤ dS (T 5) b a → Y Γ Z 0 0 Q (mH A (upN (upN F0 18 (fun _ => T 17 0)) 16 x) G) 117 [some (.ref (A 0)), some (.int (iI a)), some (.int (iI b)), some (.int (iI (b2i (dB (wordP T))))), some (.int (iI (T 17 0))), some (.int (iI i))] [] := by
    intro ha hb hwd hd F0 hF0 hF14 hF13 hFe
    have hd7 := dS_in (t := a) hn (show 0 ≤ b ∧ b < T 5 10 by omega)
    have hF5 : F0 5 = T 5 := hF0 5 (by decide) (by decide) (by decide) (by decide) (by decide)
    have hwl := hwd.2
    refine loopDown (dS (T 5) b a) ?_
    intro i ih x hx hxe h0 h1
    have r1 := rtS_ok hn.1 (o := b) (t := a) (by omega) hd i h0 h1
    have r2 := fun h : i < dS (T 5) b a => rtS_ok hn.1 (o := b) (t := a) (by omega) hd (i + 1) (by omega) (by omega)
    have r3 := fun h : i < dS (T 5) b a => nxS_ok hn.1 (o := b) (t := rtS (T 5) b a i) (by omega)
    have r4 := rtS_s (w := T 5) (o := b) (t := a) h0
    refine y_iload E dX3_send_117 (by rfl) ?_
    first | refine y_ald_n E dX3_send_119 (by rfl) ?_ | refine y_aload_n E dX3_send_119 (by rfl) ?_
    refine y_get E dX3_send_120 fl_X3_222_X3 (m_o hA _ _) (by rfl) ?_
    try simp (decide := true) only [upN_s, upN_n, upN_upN, upN_id, remT_5, remT_8]
    rw [hF14]
    refine y_icmp_ge (tgt := 152) E dX3_send_123 (by decide) (by omega) (by omega) (fun h123 => ?_) (fun h123 => ?_)
    · first | refine y_ald_n E dX3_send_152 (by rfl) ?_ | refine y_aload_n E dX3_send_152 (by rfl) ?_
      refine y_callV E dX3_send_153 lk_X3_244 (m_lostLetters hA ?_ ?_) (by rfl) (m_o hA _ _) rfl (by decide) (by omega) (by omega) rfl (Nat.le_of_ble_eq_true rfl) ?_ (fun _ _ _ h => h.elim)
      · (show 0 ≤ T 17 0 ∧ T 17 0 ≤ 24; omega)
      · exact hx
      rintro _ _ ⟨rfl, rfl⟩
      try simp (decide := true) only [upN_s, upN_n, upN_upN, upN_id, remT_5, remT_8]
      rw [lostS_c (T := upN (upN F0 18 (fun _ => T 17 0)) 16 x) (V := upN (upN T 18 (fun _ => T 17 0)) 16 x) rfl rfl]
      refine y_ireturn E F rfl rfl dX3_send_156 (by omega) (by omega) (by rw [show o_send T a b = (lostS (upN (upN T 18 (fun _ => T 17 0)) 16 x), upN (upN F0 18 (fun _ => T 17 0)) 16 x) from by unfold o_send; rw [if_neg (by omega), if_neg (by rw [dB_t hwd]; decide), if_neg (by omega), ← hFe, show dS (T 5) b a = i by omega, ← hxe]]; exact ⟨rfl, rfl⟩)
    · first | refine y_ald_n E dX3_send_126 (by rfl) ?_ | refine y_aload_n E dX3_send_126 (by rfl) ?_
      first | refine y_ald_n E dX3_send_127 (by rfl) ?_ | refine y_aload_n E dX3_send_127 (by rfl) ?_
      refine y_get E dX3_send_128 fl_X3_28_X3 (m_o hA _ _) (by rfl) ?_
      refine y_iload E dX3_send_131 (by rfl) ?_
      refine y_iald E dX3_send_133 (m_r13 hA _ _) (by omega) ?_
      try simp (decide := true) only [upN_s, upN_n, upN_upN, upN_id, remT_5, remT_8]
      rw [hF13 i (by omega) (by omega)]
      first | refine y_ald_n E dX3_send_134 (by rfl) ?_ | refine y_aload_n E dX3_send_134 (by rfl) ?_
      refine y_get E dX3_send_135 fl_X3_28_X3 (m_o hA _ _) (by rfl) ?_
      refine y_iload E dX3_send_138 (by rfl) ?_
      refine y_iconst E dX3_send_140 ?_
      refine y_iadd E dX3_send_141 ?_
      refine y_iald E dX3_send_142 (m_r13 hA _ _) (by omega) ?_
      try simp (decide := true) only [upN_s, upN_n, upN_upN, upN_id, remT_5, remT_8]
      rw [hF13 (i + 1) (by omega) (by omega)]
      have r2 := r2 (by omega)
      have r3 := r3 (by omega)
      rw [← r4] at r3
      refine y_callV E dX3_send_143 lk_X3_240 (m_goesSignal hA ?_ ?_ ?_ ?_ ?_ ?_) (by rfl) (m_o hA _ _) rfl (by decide) (by omega) (by omega) rfl (Nat.le_of_ble_eq_true rfl) ?_ (fun _ _ _ h => h.elim)
      · (show SH (F0 5); rw [hF5]; exact hS)
      · (show 0 ≤ T 17 0 ∧ T 17 0 ≤ 24; omega)
      · exact hx
      · omega
      · omega
      · (show 0 ≤ marS (F0 5) _ _; rw [hF5]; exact mar0 r3.2.1)
      rintro _ _ ⟨rfl, rfl⟩
      try simp (decide := true) only [upN_s, upN_n, upN_upN, upN_id, remT_5, remT_8]
      refine y_heap (show _ = mH A (upN (upN F0 18 (fun _ => T 17 0)) 16 (sgS (T 5) (rtS (T 5) b a i) (rtS (T 5) b a (i + 1)) (T 17 0) x)) G from by rw [hF5]) ?_
      refine y_iinc E dX3_send_146 (by rfl) ?_
      refine y_goto (tgt := 117) E dX3_send_149 (by decide) ?_
      exact ih (by omega) _ (sgS_LW hx) (by rw [hxe]; unfold sndS; rw [itI_s h0]) (by omega) (by omega)
  have walk1 : (0 ≤ a ∧ a ≤ T 5 10 - 1) → (0 ≤ b ∧ b ≤ T 5 10 - 1) → wordP T → 0 ≤ dS (T 5) b a → ∀ F0 : Nat → Int → Int, (∀ k, k ≠ 0 → k ≠ 12 → k ≠ 13 → k ≠ 14 → k ≠ 17 → F0 k = T k) → F0 14 0 = dS (T 5) b a → (∀ j, 0 ≤ j → j ≤ dS (T 5) b a → F0 13 j = rtS (T 5) b a j) → F0 = frT (upN (upN T 0 (fun _ => 0)) 17 (fun _ => 0)) a b → ∀ i : Int, 0 ≤ i → i ≤ T 17 0 → Y Γ Z 0 0 Q (mH A (upN F0 16 (cpy (T 15) (T 16) 0 i)) G) 81 [some (.ref (A 0)), some (.int (iI a)), some (.int (iI b)), some (.int (iI (b2i (dB (wordP T))))), some (.int (iI (T 17 0))), some (.int (iI i))] [] := by
    intro ha hb hwd hd F0 hF0 hF14 hF13 hFe
    have hF15 : F0 15 = T 15 := hF0 15 (by decide) (by decide) (by decide) (by decide) (by decide)
    have hwl := hwd.2
    refine loopDown (T 17 0) ?_
    intro i ih h0 h1
    have hii := fun h : i < 60 => hi i h0 h
    refine y_iload E dX3_send_81 (by rfl) ?_
    refine y_iload E dX3_send_83 (by rfl) ?_
    refine y_icmp_ge (tgt := 108) E dX3_send_85 (by decide) (by omega) (by omega) (fun h85 => ?_) (fun h85 => ?_)
    · first | refine y_ald_n E dX3_send_108 (by rfl) ?_ | refine y_aload_n E dX3_send_108 (by rfl) ?_
      refine y_iload E dX3_send_109 (by rfl) ?_
      refine y_put E dX3_send_111 fl_X3_234_X3 fw_X3_18 rfl (by rfl) (m_o hA _ _) (Nat.le_of_ble_eq_true rfl) ?_
      refine y_heap (m_p18 hA) ?_
      refine y_iconst E dX3_send_114 ?_
      refine y_istore E dX3_send_115 (Nat.le_of_ble_eq_true rfl) ?_
      refine y_heap (show _ = mH A (upN (upN F0 18 (fun _ => T 17 0)) 16 (cpy (T 15) (T 16) 0 (T 17 0))) G from ?_) (walk2 ha hb hwd hd F0 hF0 hF14 hF13 hFe 0 _ ?_ (itI_0 _ _).symm (by omega) (by omega))
      · rw [show i = T 17 0 by omega]
        refine congrArg (fun T => mH A T G) ?_
        funext k
        simp only [upN]
        by_cases e : k = 18
        · simp [e]
        · simp [e]
      · intro k k0 k1
        unfold cpy
        split
        · rw [Int.sub_zero]
          exact hi k k0 (by omega)
        · exact hw k k0 k1
    · first | refine y_ald_n E dX3_send_88 (by rfl) ?_ | refine y_aload_n E dX3_send_88 (by rfl) ?_
      refine y_get E dX3_send_89 fl_X3_35_X3 (m_o hA _ _) (by rfl) ?_
      refine y_iload E dX3_send_92 (by rfl) ?_
      first | refine y_ald_n E dX3_send_94 (by rfl) ?_ | refine y_aload_n E dX3_send_94 (by rfl) ?_
      refine y_get E dX3_send_95 fl_X3_31_X3 (m_o hA _ _) (by rfl) ?_
      refine y_iload E dX3_send_98 (by rfl) ?_
      refine y_cald E dX3_send_100 (m_r15 hA _ _) (by omega) ?_
      try simp (decide := true) only [upN_s, upN_n, upN_upN, upN_id, remT_5, remT_8]
      rw [hF15]
      have hii := hii (by omega)
      refine y_cast E dX3_send_101 (m_r16 hA _ _) (by omega) (nar_c (by omega)) ?_
      refine y_heap (m_w16 hA) ?_
      try simp (decide := true) only [upN_s, upN_n, upN_upN, upN_id, remT_5, remT_8]
      refine y_iinc E dX3_send_102 (by rfl) ?_
      refine y_goto (tgt := 81) E dX3_send_105 (by decide) ?_
      rw [cpy_s0 h0]
      exact ih (by omega) (by omega) (by omega)
  first | refine y_ald_n E dX3_send_0 (by rfl) ?_ | refine y_aload_n E dX3_send_0 (by rfl) ?_
  refine y_iconst E dX3_send_1 ?_
  refine y_put E dX3_send_2 fl_X3_51_X3 fw_X3_0 rfl (by rfl) (m_o hA _ _) (Nat.le_of_ble_eq_true rfl) ?_
  refine y_heap (m_p0 hA) ?_
  first | refine y_ald_n E dX3_send_5 (by rfl) ?_ | refine y_aload_n E dX3_send_5 (by rfl) ?_
  refine y_iload_n E dX3_send_6 (by rfl) ?_
  refine y_callV E dX3_send_7 lk_X3_148 (m_isTower hA ?_ ?_) (by rfl) (m_o hA _ _) rfl (by decide) (by omega) (by omega) rfl (Nat.le_of_ble_eq_true rfl) ?_ (fun _ _ _ h => h.elim)
  · exact hS
  · first | omega | (simp (decide := true) only [upN_s, upN_n, upN_upN, upN_id, remT_5, remT_8] <;> omega)
  rintro _ _ ⟨rfl, rfl⟩
  try simp (decide := true) only [upN_s, upN_n, upN_upN, upN_id, remT_5, remT_8]
  refine y_ifd_eq (tgt := 21) E dX3_send_10 (by decide) (fun h10 => ?_) (fun h10 => ?_)
  · first | refine y_ald_n E dX3_send_21 (by rfl) ?_ | refine y_aload_n E dX3_send_21 (by rfl) ?_
    refine y_iconst E dX3_send_22 ?_
    refine y_callV E dX3_send_23 lk_X3_63 (m_fails hA) (by rfl) (m_o hA _ _) rfl (by decide) (by omega) (by omega) rfl (Nat.le_of_ble_eq_true rfl) ?_ (fun _ _ _ h => h.elim)
    rintro _ _ ⟨rfl, rfl⟩
    try simp (decide := true) only [upN_s, upN_n, upN_upN, upN_id, remT_5, remT_8]
    refine y_ireturn E F rfl rfl dX3_send_26 (by omega) (by omega) (by first | (rw [show o_send T a b = (0, failT T 1) from by unfold o_send; rw [if_pos (by omega)]]; exact ⟨rfl, rfl⟩))
  · first | refine y_ald_n E dX3_send_13 (by rfl) ?_ | refine y_aload_n E dX3_send_13 (by rfl) ?_
    refine y_iload_n E dX3_send_14 (by rfl) ?_
    refine y_callV E dX3_send_15 lk_X3_148 (m_isTower hA ?_ ?_) (by rfl) (m_o hA _ _) rfl (by decide) (by omega) (by omega) rfl (Nat.le_of_ble_eq_true rfl) ?_ (fun _ _ _ h => h.elim)
    · exact hS
    · first | omega | (simp (decide := true) only [upN_s, upN_n, upN_upN, upN_id, remT_5, remT_8] <;> omega)
    rintro _ _ ⟨rfl, rfl⟩
    try simp (decide := true) only [upN_s, upN_n, upN_upN, upN_id, remT_5, remT_8]
    refine y_ifd_ne (tgt := 27) E dX3_send_18 (by decide) (fun h18 => ?_) (fun h18 => ?_)
    · first | refine y_ald_n E dX3_send_27 (by rfl) ?_ | refine y_aload_n E dX3_send_27 (by rfl) ?_
      refine y_callV E dX3_send_28 lk_X3_237 (m_isWordIn hA ?_ ?_) (by rfl) (m_o hA _ _) rfl (by decide) (by omega) (by omega) rfl (Nat.le_of_ble_eq_true rfl) ?_ (fun _ _ _ h => h.elim)
      · exact hl
      · exact hi
      rintro _ _ ⟨rfl, rfl⟩
      try simp (decide := true) only [upN_s, upN_n, upN_upN, upN_id, remT_5, remT_8]
      refine y_istore_n (j := 3) E dX3_send_31 rfl (Nat.le_of_ble_eq_true rfl) ?_
      first | refine y_ald_n E dX3_send_32 (by rfl) ?_ | refine y_aload_n E dX3_send_32 (by rfl) ?_
      rw [show wordP (upN T 0 (fun _ => 0)) = wordP T from rfl]
      refine y_get E dX3_send_33 fl_X3_231_X3 (m_o hA _ _) (by rfl) ?_
      try simp (decide := true) only [upN_s, upN_n, upN_upN, upN_id, remT_5, remT_8]
      refine y_istore E dX3_send_36 (Nat.le_of_ble_eq_true rfl) ?_
      first | refine y_ald_n E dX3_send_38 (by rfl) ?_ | refine y_aload_n E dX3_send_38 (by rfl) ?_
      refine y_iconst E dX3_send_39 ?_
      refine y_put E dX3_send_40 fl_X3_231_X3 fw_X3_17 rfl (by rfl) (m_o hA _ _) (Nat.le_of_ble_eq_true rfl) ?_
      refine y_heap (m_p17 hA) ?_
      refine y_iload_n E dX3_send_43 (by rfl) ?_
      refine y_ifd_ne (tgt := 53) E dX3_send_44 (by decide) (fun h44 => ?_) (fun h44 => ?_)
      · first | refine y_ald_n E dX3_send_53 (by rfl) ?_ | refine y_aload_n E dX3_send_53 (by rfl) ?_
        refine y_iload_n E dX3_send_54 (by rfl) ?_
        refine y_iload_n E dX3_send_55 (by rfl) ?_
        refine y_callV E dX3_send_56 lk_X3_228 (m_findRoute hA ?_ ?_ ?_) (by rfl) (m_o hA _ _) rfl (by decide) (by omega) (by omega) rfl (Nat.le_of_ble_eq_true rfl) ?_ (fun _ _ _ h => h.elim)
        · exact hS
        · (show 0 ≤ a ∧ a < T 5 10; omega)
        · (show 0 ≤ b ∧ b < T 5 10; omega)
        rintro _ _ ⟨rfl, rfl⟩
        try simp (decide := true) only [upN_s, upN_n, upN_upN, upN_id, remT_5, remT_8]
        refine y_ifd_ne (tgt := 78) E dX3_send_59 (by decide) (fun h59 => ?_) (fun h59 => ?_)
        · first
            | exact absurd trivial h69
            | refine y_heap (show _ = mH A (upN (frT (upN (upN T 0 (fun _ => 0)) 17 (fun _ => 0)) a b) 16 (cpy (T 15) (T 16) 0 0)) G from ?_) ?_
              · rw [cpy_0]
                have e16 : frT (upN (upN T 0 (fun _ => 0)) 17 (fun _ => 0)) a b 16 = T 16 := frT_k _ a b (by decide) (by decide) (by decide)
                rw [← e16, upN_id]
              · have hw1 := walk1 h10 h18 h44 h59 (frT (upN (upN T 0 (fun _ => 0)) 17 (fun _ => 0)) a b) (fun k k0 k12 k13 k14 k17 => by rw [frT_k _ a b k12 k13 k14, upN_n _ k17, upN_n _ k0]) (congrFun (frT_14 (T := upN (upN T 0 (fun _ => 0)) 17 (fun _ => 0)) h59) 0) (fun j j0 j1 => by rw [frT_13 (T := upN (upN T 0 (fun _ => 0)) 17 (fun _ => 0)) h59]; unfold rowR; rw [if_pos ⟨j0, (show j < dS (T 5) b a + 1 by omega)⟩]; rfl) rfl 0 (by omega) (by omega)
                refine y_iconst E dX3_send_78 ?_
                refine y_istore E dX3_send_79 (Nat.le_of_ble_eq_true rfl) ?_
                exact hw1
        · first | refine y_ald_n E dX3_send_62 (by rfl) ?_ | refine y_aload_n E dX3_send_62 (by rfl) ?_
          refine y_bipush E dX3_send_63 (by decide) ?_
          refine y_iconst E dX3_send_65 ?_
          refine y_callV E dX3_send_66 lk_X3_132 (m_hinders hA) (by rfl) (m_o hA _ _) rfl (by decide) (by omega) (by omega) rfl (Nat.le_of_ble_eq_true rfl) ?_ (fun _ _ _ h => h.elim)
          rintro _ _ ⟨rfl, rfl⟩
          try simp (decide := true) only [upN_s, upN_n, upN_upN, upN_id, remT_5, remT_8]
          refine y_ifd_eq (tgt := 78) E dX3_send_69 (by decide) (fun h69 => ?_) (fun h69 => ?_)
          · first
              | exact absurd trivial h69
              | refine y_heap (show _ = mH A (upN (frT (upN (upN T 0 (fun _ => 0)) 17 (fun _ => 0)) a b) 16 (cpy (T 15) (T 16) 0 0)) G from ?_) ?_
                · rw [cpy_0]
                  have e16 : frT (upN (upN T 0 (fun _ => 0)) 17 (fun _ => 0)) a b 16 = T 16 := frT_k _ a b (by decide) (by decide) (by decide)
                  rw [← e16, upN_id]
                · have hw1 := walk1 h10 h18 h44 h59 (frT (upN (upN T 0 (fun _ => 0)) 17 (fun _ => 0)) a b) (fun k k0 k12 k13 k14 k17 => by rw [frT_k _ a b k12 k13 k14, upN_n _ k17, upN_n _ k0]) (congrFun (frT_14 (T := upN (upN T 0 (fun _ => 0)) 17 (fun _ => 0)) h59) 0) (fun j j0 j1 => by rw [frT_13 (T := upN (upN T 0 (fun _ => 0)) 17 (fun _ => 0)) h59]; unfold rowR; rw [if_pos ⟨j0, (show j < dS (T 5) b a + 1 by omega)⟩]; rfl) rfl 0 (by omega) (by omega)
                  refine y_iconst E dX3_send_78 ?_
                  refine y_istore E dX3_send_79 (Nat.le_of_ble_eq_true rfl) ?_
                  exact hw1
          · first | refine y_ald_n E dX3_send_72 (by rfl) ?_ | refine y_aload_n E dX3_send_72 (by rfl) ?_
            refine y_iconst E dX3_send_73 ?_
            refine y_callV E dX3_send_74 lk_X3_135 (m_refuses hA) (by rfl) (m_o hA _ _) rfl (by decide) (by omega) (by omega) rfl (Nat.le_of_ble_eq_true rfl) ?_ (fun _ _ _ h => h.elim)
            rintro _ _ ⟨rfl, rfl⟩
            try simp (decide := true) only [upN_s, upN_n, upN_upN, upN_id, remT_5, remT_8]
            refine y_ireturn E F rfl rfl dX3_send_77 (by omega) (by omega) (by first | (rw [show o_send T a b = (0, refT (upN (upN (frT (upN (upN T 0 (fun _ => 0)) 17 (fun _ => 0)) a b) 1 (fun _ => 9)) 2 (fun _ => 0)) 3) from by unfold o_send; rw [if_neg (by omega), if_neg (by rw [dB_t h44]; decide), if_pos (by omega)]]; exact ⟨rfl, rfl⟩))
      · first | refine y_ald_n E dX3_send_47 (by rfl) ?_ | refine y_aload_n E dX3_send_47 (by rfl) ?_
        refine y_iconst E dX3_send_48 ?_
        refine y_callV E dX3_send_49 lk_X3_63 (m_fails hA) (by rfl) (m_o hA _ _) rfl (by decide) (by omega) (by omega) rfl (Nat.le_of_ble_eq_true rfl) ?_ (fun _ _ _ h => h.elim)
        rintro _ _ ⟨rfl, rfl⟩
        try simp (decide := true) only [upN_s, upN_n, upN_upN, upN_id, remT_5, remT_8]
        refine y_ireturn E F rfl rfl dX3_send_52 (by omega) (by omega) (by first | (rw [show o_send T a b = (0, upN (upN (upN T 0 (fun _ => 0)) 17 (fun _ => 0)) 0 (fun _ => 2)) from by unfold o_send; rw [if_neg (by omega), if_pos (dB_f h44)]]; exact ⟨rfl, rfl⟩))
    · first | refine y_ald_n E dX3_send_21 (by rfl) ?_ | refine y_aload_n E dX3_send_21 (by rfl) ?_
      refine y_iconst E dX3_send_22 ?_
      refine y_callV E dX3_send_23 lk_X3_63 (m_fails hA) (by rfl) (m_o hA _ _) rfl (by decide) (by omega) (by omega) rfl (Nat.le_of_ble_eq_true rfl) ?_ (fun _ _ _ h => h.elim)
      rintro _ _ ⟨rfl, rfl⟩
      try simp (decide := true) only [upN_s, upN_n, upN_upN, upN_id, remT_5, remT_8]
      refine y_ireturn E F rfl rfl dX3_send_26 (by omega) (by omega) (by first | (rw [show o_send T a b = (0, failT T 1) from by unfold o_send; rw [if_pos (by omega)]]; exact ⟨rfl, rfl⟩))
end Tw12
