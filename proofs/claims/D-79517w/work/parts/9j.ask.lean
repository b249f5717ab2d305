/-! ===== the component: what is asked (4) ===== -/
section Iq
variable {Γ : yG}
set_option maxHeartbeats 4000000
/-- none is the one -/
theorem c_J4_indexOf_n {G : yH} {τ : Nat × Nat} {a b : Nat} {t : yT} {fs : List Value} {ys : List Nat} (h : isLL G τ a (ys.map some)) (hb : G b = some (t, .inr (1, fs))) (hlt : ∀ i : Nat, ys[i]? ≠ some b) (hn : ys.length ≤ 60000) : Ct_J4_indexOf Γ 2 0 0 [.ref a, .ref b] G (fun r G' => r = some (.int (iI (-1))) ∧ G' = G) noX := by
  obtain ⟨mc, ns, h⟩ := h
  have hh := h
  obtain ⟨h1, h2, h3, h4⟩ := h
  unfold llE at h1
  have hl : ns.length = ys.length := by simpa using h2
  refine y_start (lv0 := [some (.ref a), some (.ref b), none, none]) (nm := "indexOf") (own := RJ4) (by decide +kernel) rfl rfl (by first | exact Nat.le_of_ble_eq_true rfl | (simp only [yArgs, va_cat_rf]; simp [Value.category])) (by first | rfl | (simp only [yArgs, va_cat_rf]; simp [Value.category])) ?_
  intro Z Q E F
  refine y_iconst E dJ4_indexOf_0 ?_
  refine y_istore_n (j := 2) E dJ4_indexOf_1 rfl (Nat.le_of_ble_eq_true rfl) ?_
  simp only [lst1, lkill_rf, lkill_ref, lkill_int, lkill_no, lkill_null]
  first | refine y_ald_n E dJ4_indexOf_2 (by rfl) ?_ | refine y_aload_n E dJ4_indexOf_2 (by rfl) ?_
  refine y_ifnonnull_r (tgt := 38) E dJ4_indexOf_3 (by decide) ?_
  first | refine y_ald_n E dJ4_indexOf_38 (by rfl) ?_ | refine y_aload_n E dJ4_indexOf_38 (by rfl) ?_
  refine y_get E dJ4_indexOf_39 fl_J4_18_J4 (by assumption) (by rfl) ?_
  first | refine y_ast_n (j := 3) E dJ4_indexOf_42 rfl (Nat.le_of_ble_eq_true rfl) ?_ | refine y_astore_n (j := 3) E dJ4_indexOf_42 rfl (Nat.le_of_ble_eq_true rfl) ?_ | refine y_astore_n (j := 3) (r := none) E dJ4_indexOf_42 rfl (Nat.le_of_ble_eq_true rfl) ?_
  simp only [lst1, lkill_rf, lkill_ref, lkill_int, lkill_no, lkill_null]
  have loop : ∀ (d i : Nat), i + d = ys.length → Y Γ Z 0 0 Q G 43 [some (.ref a), some (.ref b), some (.int (iI i)), some (va_rf ns[i]?)] [] := by
    intro d
    induction d with
    | zero =>
      intro i hi
      rw [List.getElem?_eq_none (show ns.length ≤ i by omega)]
      refine y_lv (lv' := [some (.ref a), some (.ref b), some (.int (iI i)), some .null]) rfl ?_
      first | refine y_ald_n E dJ4_indexOf_43 (by rfl) ?_ | refine y_aload_n E dJ4_indexOf_43 (by rfl) ?_
      refine y_ifnull_n (tgt := 71) E dJ4_indexOf_44 (by decide) ?_
      refine y_iconst E dJ4_indexOf_71 ?_
      refine y_ireturn E F rfl rfl dJ4_indexOf_72 (by omega) (by omega) ⟨rfl, rfl⟩
    | succ d ih =>
      intro i hi
      obtain ⟨nd, hnd⟩ : ∃ nd, ns[i]? = some nd := ⟨_, List.getElem?_eq_getElem (by omega)⟩
      obtain ⟨c, hc⟩ : ∃ c, ys[i]? = some c := ⟨_, List.getElem?_eq_getElem (by omega)⟩
      have hcb : b ≠ c := fun e => hlt i (by rw [e]; exact hc)
      obtain ⟨x, hx, hg⟩ := hh.at hnd
      have hx' : x = some c := by
        rw [List.getElem?_map, hc] at hx
        exact (Option.some.inj hx).symm
      subst hx'
      unfold ndE at hg
      rw [hnd]
      refine y_lv (lv' := [some (.ref a), some (.ref b), some (.int (iI i)), some (.ref nd)]) rfl ?_
      first | refine y_ald_n E dJ4_indexOf_43 (by rfl) ?_ | refine y_aload_n E dJ4_indexOf_43 (by rfl) ?_
      refine y_ifnull_r E dJ4_indexOf_44 ?_
      first | refine y_ald_n E dJ4_indexOf_47 (by rfl) ?_ | refine y_aload_n E dJ4_indexOf_47 (by rfl) ?_
      first | refine y_ald_n E dJ4_indexOf_48 (by rfl) ?_ | refine y_aload_n E dJ4_indexOf_48 (by rfl) ?_
      refine y_get E dJ4_indexOf_49 fl_J4_39_J36 (by assumption) (by rfl) ?_
      refine y_callUU E dJ4_indexOf_52 lu_J4_67_X5 (cu_equals (a := b) (b := c)) (by rfl) (hb) rfl (by decide) (by omega) (by omega) rfl (Nat.le_of_ble_eq_true rfl) (Nat.le_of_ble_eq_true rfl) ?_
      rintro v G' ⟨rfl, rfl⟩
      refine y_eq (st' := [.int (iI (b2i (decide (b = c))))]) rfl ?_
      refine y_ifb_eq (tgt := 60) E dJ4_indexOf_55 (by decide) (fun hq => ?_) (fun hq => ?_)
      · refine y_iinc E dJ4_indexOf_60 (by rfl) ?_
        first | refine y_ald_n E dJ4_indexOf_63 (by rfl) ?_ | refine y_aload_n E dJ4_indexOf_63 (by rfl) ?_
        refine y_get E dJ4_indexOf_64 fl_J4_36_J36 (by assumption) (by rfl) ?_
        first | refine y_ast_n (j := 3) E dJ4_indexOf_67 rfl (Nat.le_of_ble_eq_true rfl) ?_ | refine y_astore_n (j := 3) E dJ4_indexOf_67 rfl (Nat.le_of_ble_eq_true rfl) ?_ | refine y_astore_n (j := 3) (r := none) E dJ4_indexOf_67 rfl (Nat.le_of_ble_eq_true rfl) ?_
        simp only [lst1, lkill_rf, lkill_ref, lkill_int, lkill_no, lkill_null]
        refine y_goto (tgt := 43) E dJ4_indexOf_68 (by decide) ?_
        refine y_lv (lv' := [some (.ref a), some (.ref b), some (.int (iI ((i + 1 : Nat) : Int))), some (va_rf ns[i + 1]?)]) rfl (ih (i + 1) (by omega))
      · exact absurd (of_decide_eq_true hq) hcb
  refine y_lv (lv' := [some (.ref a), some (.ref b), some (.int (iI ((0 : Nat) : Int))), some (va_rf ns[0]?)]) (by rw [← List.head?_eq_getElem?]; rfl) (loop ys.length 0 (by omega))
end Iq
section X1n
variable {Γ : yG} {G : yH} {N x : Nat} {C : CF} {I : ID} {S : SA} {T : Nat → Int → Int} {st : Nat} {t0 : yT} {hc fp : Int} {w : Int → Int}
/-- where lenses are: told by them, by the towers, by the store -/
def WC (w : Int → Int) : Prop := (∀ t, 0 ≤ t → t < w 10 → 0 ≤ tw w t 3 → lw w (tw w t 3) 2 = t) ∧ (∀ l, 0 ≤ l → l < w 11 → 0 ≤ lw w l 2 → lw w l 2 < w 10 ∧ tw w (lw w l 2) 3 = l) ∧ (∀ k, 0 ≤ k → k < w 12 → lw w (w (13 + k)) 2 = -1) ∧ (∀ j k, 0 ≤ j → j < k → k < w 12 → w (13 + j) ≠ w (13 + k)) ∧ (∀ l, 0 ≤ l → l < w 11 → lw w l 2 = -1 → ∃ k, 0 ≤ k ∧ k < w 12 ∧ w (13 + k) = l) ∧ w 12 ≤ w 11
theorem sLa_inj {kk : Nat} (h : isST Γ G st kk S w) (h8 : w 11 ≤ 12) {t u : Nat} (ht : (t : Int) < w 11) (hu : (u : Int) < w 11) (e : sLa S t = sLa S u) : t = u := by
  have h1 := isST_l h ht
  have h2 := isST_l h hu
  rw [e, h2] at h1
  unfold lnX lnE at h1
  have h1 := Option.some.inj h1
  injection h1 with _ h1
  injection h1 with h1
  injection h1 with _ h1
  injection h1 with h1
  injection h1 with h1
  have := (iI_inj (show inR (u : Int) by omega) (show inR (t : Int) by omega)).mp h1
  omega
set_option maxHeartbeats 4000000
theorem c_X1_sign (hB : gB Γ G) (hC : isC Γ G N x C I S T) (hS : SH (T 5)) (hU : UT (T 5)) {t i : Int} (ht : inR t) (hi : inR i) : Ct_X1_sign Γ 5 1 6 [.ref x, .int (iI t), .int (iI i)] (G) (fun v G' => ansI v (q_sign (T 5) t i) ∧ G' = G) (fun E G' => xs [eI] (q_sign (T 5) t i).1 E ∧ G' = G) := by
  refine y_start (lv0 := [some (.ref x), some (.int (iI t)), some (.int (iI i))]) (nm := "sign") (own := RX1) (by decide +kernel) rfl rfl (by exact Nat.le_of_ble_eq_true rfl) (by rfl) ?_
  intro Z Q E F
  have hx := hC.o
  have hI := hC.s
  have hst := hI.1
  have hn := hS.nt
  obtain ⟨w, hw⟩ : ∃ w, w = T 5 := ⟨_, rfl⟩
  rw [← hw] at hI hst hn hS ⊢
  rw [← hw] at hU
  have no : ¬ ((0 ≤ t ∧ t ≤ w 10 - 1) ∧ 0 ≤ i ∧ i ≤ tw w t 7 - 1) → q_sign w t i = (1, 0) := fun h => if_neg h
  have yes : (0 ≤ t ∧ t ≤ w 10 - 1) ∧ 0 ≤ i ∧ i ≤ tw w t 7 - 1 → q_sign w t i = (0, if flS (tw w t 6).toNat (tw w t 7).toNat i.toNat = true then 42 else 46) := fun h => if_pos h
  by_cases h8 : 0 ≤ t ∧ t ≤ w 10 - 1
  · have htw := isST_t hI (t := t.toNat) (by omega)
    have hPt := hU t h8.1 (by omega)
    have hp8 : (2 : Nat) ^ (tw w t 7).toNat ≤ 2 ^ 8 := Nat.pow_le_pow_right (by decide) (by have := hPt.2.1; omega)
    have hP1 := hPt.1
    have hP2 := hPt.2.1
    have hP3 := hPt.2.2.1
    have hP4 := hPt.2.2.2
    unfold twX at htw
    rw [show ((t.toNat : Nat) : Int) = t by omega] at htw
    have htf := htw
    rw [show tw w t 6 = (((tw w t 6).toNat : Nat) : Int) by omega, show tw w t 7 = (((tw w t 7).toNat : Nat) : Int) by omega] at htf
    unfold twE at htw
    first | refine y_ald_n E dX1_sign_0 (by rfl) ?_ | refine y_aload_n E dX1_sign_0 (by rfl) ?_
    refine y_iload_n E dX1_sign_1 (by rfl) ?_
    refine y_callV E dX1_sign_2 lk_X1_177 (c_X1_isTower hx hI hS ht) (by rfl) (hx) rfl (by decide) (by omega) (by omega) rfl (Nat.le_of_ble_eq_true rfl) ?_ (fun _ _ _ h => h.elim)
    rintro _ _ ⟨rfl, hG9⟩
    rw [hG9]
    clear hG9
    refine y_ifd_eq (tgt := 30) E dX1_sign_5 (by decide) (fun h5 => ?_) (fun h5 => ?_)
    · refine y_iconst E dX1_sign_30 ?_
      refine y_callS E dX1_sign_31 lk_X1_122 (c_X1_checkIndex_f) (by rfl) (by decide) (by omega) (by omega) rfl (Nat.le_of_ble_eq_true rfl) (fun _ _ h => h.elim) ?_
      rintro _ _ _ ⟨rfl, rfl⟩
      exact y_xout E F (by omega) (by omega) (⟨xs_0 (okP (no (fun q => by omega))).1, rfl⟩)
    · refine y_iload_n E dX1_sign_8 (by rfl) ?_
      refine y_iconst E dX1_sign_9 ?_
      first | refine y_ald_n E dX1_sign_10 (by rfl) ?_ | refine y_aload_n E dX1_sign_10 (by rfl) ?_
      refine y_iload_n E dX1_sign_11 (by rfl) ?_
      refine y_callV E dX1_sign_12 lk_X1_189 (c_X1_at hx hI hS (t := t) (by omega) (by omega)) (by rfl) (hx) rfl (by decide) (by omega) (by omega) rfl (Nat.le_of_ble_eq_true rfl) ?_ (fun _ _ _ h => h.elim)
      rintro _ _ ⟨rfl, hG9⟩
      rw [hG9]
      clear hG9
      refine y_getN E dX1_sign_15 fl_X1_202_X6 (htw) (by rfl) ?_
      refine y_iconst E dX1_sign_18 ?_
      refine y_isub E dX1_sign_19 ?_
      refine y_callS E dX1_sign_20 lk_X1_85 (c_X1_isBetween hi (by omega) (by omega)) (by rfl) (by decide) (by omega) (by omega) rfl (Nat.le_of_ble_eq_true rfl) ?_ (fun _ _ _ h => h.elim)
      rintro _ _ ⟨rfl, hG9⟩
      rw [hG9]
      clear hG9
      refine y_ifd_eq (tgt := 30) E dX1_sign_23 (by decide) (fun h23 => ?_) (fun h23 => ?_)
      · refine y_iconst E dX1_sign_30 ?_
        refine y_callS E dX1_sign_31 lk_X1_122 (c_X1_checkIndex_f) (by rfl) (by decide) (by omega) (by omega) rfl (Nat.le_of_ble_eq_true rfl) (fun _ _ h => h.elim) ?_
        rintro _ _ _ ⟨rfl, rfl⟩
        exact y_xout E F (by omega) (by omega) (⟨xs_0 (okP (no (fun q => by omega))).1, rfl⟩)
      · refine y_iconst E dX1_sign_26 ?_
        refine y_goto (tgt := 31) E dX1_sign_27 (by decide) ?_
        refine y_callS E dX1_sign_31 lk_X1_122 (c_X1_checkIndex_t) (by rfl) (by decide) (by omega) (by omega) rfl (Nat.le_of_ble_eq_true rfl) ?_ (fun _ _ _ h => h.elim)
        rintro _ _ ⟨rfl, rfl⟩
        first | refine y_ald_n E dX1_sign_34 (by rfl) ?_ | refine y_aload_n E dX1_sign_34 (by rfl) ?_
        refine y_iload_n E dX1_sign_35 (by rfl) ?_
        refine y_callV E dX1_sign_36 lk_X1_189 (c_X1_at hx hI hS (t := t) (by omega) (by omega)) (by rfl) (hx) rfl (by decide) (by omega) (by omega) rfl (Nat.le_of_ble_eq_true rfl) ?_ (fun _ _ _ h => h.elim)
        rintro _ _ ⟨rfl, hG9⟩
        rw [hG9]
        clear hG9
        refine y_iload_n E dX1_sign_39 (by rfl) ?_
        rw [show i = ((i.toNat : Nat) : Int) by omega]
        refine y_callV E dX1_sign_40 lk_X1_444 (c_X6_isFlash (i := i.toNat) htf (by omega) (by omega) (by omega)) (by rfl) (htw) rfl (by decide) (by omega) (by omega) rfl (Nat.le_of_ble_eq_true rfl) ?_ (fun _ _ _ h => h.elim)
        rintro _ _ ⟨rfl, hG9⟩
        rw [hG9]
        clear hG9
        refine y_ifb_eq (tgt := 51) E dX1_sign_43 (by decide) (fun h43 => ?_) (fun h43 => ?_)
        · refine y_bipush E dX1_sign_51 (by decide) ?_
          refine y_ireturn E F rfl rfl dX1_sign_53 (by omega) (by omega) ⟨ansI_i (by rw [yes ⟨by omega, by omega⟩]; first | (rw [if_pos h43]; done) | (rw [if_neg (by rw [h43]; decide)]; done)), rfl⟩
        · refine y_bipush E dX1_sign_46 (by decide) ?_
          refine y_goto (tgt := 53) E dX1_sign_48 (by decide) ?_
          refine y_ireturn E F rfl rfl dX1_sign_53 (by omega) (by omega) ⟨ansI_i (by rw [yes ⟨by omega, by omega⟩]; first | (rw [if_pos h43]; done) | (rw [if_neg (by rw [h43]; decide)]; done)), rfl⟩
  · first | refine y_ald_n E dX1_sign_0 (by rfl) ?_ | refine y_aload_n E dX1_sign_0 (by rfl) ?_
    refine y_iload_n E dX1_sign_1 (by rfl) ?_
    refine y_callV E dX1_sign_2 lk_X1_177 (c_X1_isTower hx hI hS ht) (by rfl) (hx) rfl (by decide) (by omega) (by omega) rfl (Nat.le_of_ble_eq_true rfl) ?_ (fun _ _ _ h => h.elim)
    rintro _ _ ⟨rfl, hG9⟩
    rw [hG9]
    clear hG9
    refine y_ifd_eq (tgt := 30) E dX1_sign_5 (by decide) (fun h5 => ?_) (fun h5 => ?_)
    · refine y_iconst E dX1_sign_30 ?_
      refine y_callS E dX1_sign_31 lk_X1_122 (c_X1_checkIndex_f) (by rfl) (by decide) (by omega) (by omega) rfl (Nat.le_of_ble_eq_true rfl) (fun _ _ h => h.elim) ?_
      rintro _ _ _ ⟨rfl, rfl⟩
      exact y_xout E F (by omega) (by omega) (⟨xs_0 (okP (no (fun q => by omega))).1, rfl⟩)
    · exact absurd h5 h8
theorem c_X1_reason (hC : isC Γ G N x C I S T) {d h : Int} (hd : inR d) (hh : h = 0 ∨ h = 1) : Ct_X1_reason Γ 4 1 6 [.ref x, .int (iI d), .int (iI h)] (G) (fun v G' => ansI v (q_reason T d h) ∧ G' = G) (fun E G' => xs [eA, eN] (q_reason T d h).1 E ∧ G' = G) := by
  refine y_start (lv0 := [some (.ref x), some (.int (iI d)), some (.int (iI h)), none]) (nm := "reason") (own := RX1) (by decide +kernel) rfl rfl (by exact Nat.le_of_ble_eq_true rfl) (by rfl) ?_
  intro Z Q E F
  have hx := hC.o
  obtain ⟨hl0, hl2, ls, hal, hls⟩ := hC.l
  obtain ⟨fal, hac⟩ := hal.c
  have no : d < 0 → q_reason T d h = (1, 0) := fun a => if_pos a
  have no2 : ¬ d < 0 → T 3 0 ≤ d → q_reason T d h = (2, 0) := fun a b => by unfold q_reason; rw [if_neg a, if_pos b]
  have y0 : ¬ d < 0 → ¬ T 3 0 ≤ d → h = 0 → q_reason T d h = (0, T 4 (2 * d)) := fun a b c => by unfold q_reason; rw [if_neg a, if_neg b, if_pos c, Int.add_zero]
  have y1 : ¬ d < 0 → ¬ T 3 0 ≤ d → h ≠ 0 → q_reason T d h = (0, T 4 (2 * d + 1)) := fun a b c => by unfold q_reason; rw [if_neg a, if_neg b, if_neg c]
  have hlen : ((((List.range (T 3 0).toNat).map ls).length : Nat) : Int) = T 3 0 := by rw [List.length_map, List.length_range]; omega
  refine y_iload_n E dX1_reason_0 (by rfl) ?_
  refine y_if_lt (tgt := 8) E dX1_reason_1 (by decide) (by omega) (fun h1 => ?_) (fun h1 => ?_)
  · refine y_iconst E dX1_reason_8 ?_
    refine y_callS E dX1_reason_9 lk_X1_126 (c_X1_check_f) (by rfl) (by decide) (by omega) (by omega) rfl (Nat.le_of_ble_eq_true rfl) (fun _ _ h => h.elim) ?_
    rintro _ _ _ ⟨rfl, rfl⟩
    exact y_xout E F (by omega) (by omega) (⟨xs_0 (okP (no (by omega))).1, rfl⟩)
  · refine y_iconst E dX1_reason_4 ?_
    refine y_goto (tgt := 9) E dX1_reason_5 (by decide) ?_
    refine y_callS E dX1_reason_9 lk_X1_126 (c_X1_check_t) (by rfl) (by decide) (by omega) (by omega) rfl (Nat.le_of_ble_eq_true rfl) ?_ (fun _ _ _ h => h.elim)
    rintro _ _ ⟨rfl, rfl⟩
    refine y_iload_n E dX1_reason_12 (by rfl) ?_
    first | refine y_ald_n E dX1_reason_13 (by rfl) ?_ | refine y_aload_n E dX1_reason_13 (by rfl) ?_
    refine y_get E dX1_reason_14 fl_X1_40_X1 (hx) (by rfl) ?_
    refine y_callV E dX1_reason_17 lk_X1_81 (c_AL_size hal) (by rfl) (hac) rfl (by decide) (by omega) (by omega) rfl (Nat.le_of_ble_eq_true rfl) ?_ (fun _ _ _ h => h.elim)
    rintro _ _ ⟨rfl, hG9⟩
    rw [hG9]
    clear hG9
    rw [hlen]
    refine y_icmp_ge (tgt := 27) E dX1_reason_20 (by decide) (by omega) (by omega) (fun h20 => ?_) (fun h20 => ?_)
    · refine y_iconst E dX1_reason_27 ?_
      refine y_callS E dX1_reason_28 lk_X1_286 (c_X1_checkElement_f) (by rfl) (by decide) (by omega) (by omega) rfl (Nat.le_of_ble_eq_true rfl) (fun _ _ h => h.elim) ?_
      rintro _ _ _ ⟨rfl, rfl⟩
      exact y_xout E F (by omega) (by omega) (⟨xs_1 (okP (no2 (by omega) (by omega))).1, rfl⟩)
    · refine y_iconst E dX1_reason_23 ?_
      refine y_goto (tgt := 28) E dX1_reason_24 (by decide) ?_
      refine y_callS E dX1_reason_28 lk_X1_286 (c_X1_checkElement_t) (by rfl) (by decide) (by omega) (by omega) rfl (Nat.le_of_ble_eq_true rfl) ?_ (fun _ _ _ h => h.elim)
      rintro _ _ ⟨rfl, rfl⟩
      first | refine y_ald_n E dX1_reason_31 (by rfl) ?_ | refine y_aload_n E dX1_reason_31 (by rfl) ?_
      refine y_get E dX1_reason_32 fl_X1_40_X1 (hx) (by rfl) ?_
      refine y_iload_n E dX1_reason_35 (by rfl) ?_
      rw [show d = ((d.toNat : Nat) : Int) by omega]
      refine y_callV E dX1_reason_36 lk_X1_112 (c_AL_get (i := d.toNat) (y := ls d.toNat) hal (by rw [List.getElem?_map, List.getElem?_range (by omega)]; rfl)) (by rfl) (hac) rfl (by decide) (by omega) (by omega) rfl (Nat.le_of_ble_eq_true rfl) ?_ (fun _ _ _ h => h.elim)
      · first | omega | (simp (decide := true) only [upN_s, upN_n, upN_upN, upN_id, remT_5, remT_8] <;> omega)
      · first | omega | (simp (decide := true) only [upN_s, upN_n, upN_upN, upN_id, remT_5, remT_8] <;> omega)
      rintro _ _ ⟨rfl, hG9⟩
      rw [hG9]
      clear hG9
      have hrf := hls d.toNat (by omega)
      unfold rfE at hrf
      rw [show ((d.toNat : Nat) : Int) = d by omega] at hrf
      refine y_ccast E dX1_reason_39 q1521 (hrf) rfl (Or.inl rfl) ?_
      first | refine y_ast_n (j := 3) E dX1_reason_42 rfl (Nat.le_of_ble_eq_true rfl) ?_ | refine y_astore_n (j := 3) E dX1_reason_42 rfl (Nat.le_of_ble_eq_true rfl) ?_ | refine y_astore_n (j := 3) (r := none) E dX1_reason_42 rfl (Nat.le_of_ble_eq_true rfl) ?_
      refine y_iload_n E dX1_reason_43 (by rfl) ?_
      refine y_if_eq (tgt := 54) E dX1_reason_44 (by decide) (by omega) (fun h44 => ?_) (fun h44 => ?_)
      · first | refine y_ald_n E dX1_reason_54 (by rfl) ?_ | refine y_aload_n E dX1_reason_54 (by rfl) ?_
        refine y_getN E dX1_reason_55 fl_X1_434_X4 (hrf) (by rfl) ?_
        refine y_ireturn E F rfl rfl dX1_reason_58 (by omega) (by omega) ⟨ansI_i (by first | exact y0 (by omega) (by omega) (by omega) | exact y1 (by omega) (by omega) (by omega)), rfl⟩
      · first | refine y_ald_n E dX1_reason_47 (by rfl) ?_ | refine y_aload_n E dX1_reason_47 (by rfl) ?_
        refine y_getN E dX1_reason_48 fl_X1_431_X4 (hrf) (by rfl) ?_
        refine y_goto (tgt := 58) E dX1_reason_51 (by decide) ?_
        refine y_ireturn E F rfl rfl dX1_reason_58 (by omega) (by omega) ⟨ansI_i (by first | exact y0 (by omega) (by omega) (by omega) | exact y1 (by omega) (by omega) (by omega)), rfl⟩
theorem c_X1_lostOf {τ : Nat × Nat} {b m : Nat} {cs : List Int} {n : Int} {y : Int → Int} (hb : isSB G τ b cs 0) (hc : txL n y cs m) (hm : m ≤ 60) : Ct_X1_lostOf Γ 6 0 0 [.ref b] (G) (fun v G' => v = some (.int (iI (sumI (fun k => b2i (dB (y k = 63))) n))) ∧ G' = G) (noX) := by
  refine y_start (lv0 := [some (.ref b), none, none]) (nm := "lostOf") (own := RX1) (by decide +kernel) rfl rfl (by exact Nat.le_of_ble_eq_true rfl) (by rfl) ?_
  intro Z Q E F
  obtain ⟨h1, h2, h3⟩ := hc
  obtain ⟨fb, hbc⟩ : ∃ fb, G b = some (some τ, .inr (15, fb)) := by
    obtain ⟨q, cap, f, ml, g1, -⟩ := hb
    exact ⟨_, g1⟩
  have loop : ∀ i : Nat, ∀ z : Int, (i : Int) ≤ n → z = sumI (fun k => b2i (dB (y k = 63))) i → Y Γ Z 0 0 Q G 4 [some (.ref b), some (.int (iI z)), some (.int (iI (i : Int)))] [] := by
    refine loopDownN n.toNat ?_
    intro i ih z hi hz
    have hyi := fun h : i < cs.length => h3 i h
    refine y_iload_n E dX1_lostOf_4 (by rfl) ?_
    first | refine y_ald_n E dX1_lostOf_5 (by rfl) ?_ | refine y_aload_n E dX1_lostOf_5 (by rfl) ?_
    refine y_callF E dX1_lostOf_6 lk_X1_350_J6 (c_J6_length hb) (by rfl) (hbc) rfl (by decide) (by omega) (by omega) rfl (Nat.le_of_ble_eq_true rfl) ?_ (fun _ _ _ h => h.elim)
    rintro _ _ ⟨rfl, hG9⟩
    rw [hG9]
    clear hG9
    refine y_icmp_ge (tgt := 40) E dX1_lostOf_11 (by decide) (by omega) (by omega) (fun h11 => ?_) (fun h11 => ?_)
    · refine y_iload_n E dX1_lostOf_40 (by rfl) ?_
      refine y_ireturn E F rfl rfl dX1_lostOf_41 (by omega) (by omega) ⟨rI (by rw [hz, show (i : Int) = n by omega]), rfl⟩
    · refine y_iload_n E dX1_lostOf_14 (by rfl) ?_
      first | refine y_ald_n E dX1_lostOf_15 (by rfl) ?_ | refine y_aload_n E dX1_lostOf_15 (by rfl) ?_
      refine y_iload_n E dX1_lostOf_16 (by rfl) ?_
      refine y_callF E dX1_lostOf_17 lk_X1_353_J6 (c_J6_charAt (i := i) hb (hyi (by omega)).1) (by rfl) (hbc) rfl (by decide) (by omega) (by omega) rfl (Nat.le_of_ble_eq_true rfl) ?_ (fun _ _ _ h => h.elim)
      rintro _ _ ⟨rfl, hG9⟩
      rw [hG9]
      clear hG9
      have hyi := hyi (by omega)
      refine y_bipush E dX1_lostOf_22 (by decide) ?_
      refine y_icmp_ne (tgt := 31) E dX1_lostOf_24 (by decide) (by omega) (by omega) (fun h24 => ?_) (fun h24 => ?_)
      · refine y_iconst E dX1_lostOf_31 ?_
        refine y_iadd E dX1_lostOf_32 ?_
        refine y_istore_n (j := 1) E dX1_lostOf_33 rfl (Nat.le_of_ble_eq_true rfl) ?_
        refine y_iinc E dX1_lostOf_34 (by rfl) ?_
        refine y_goto (tgt := 4) E dX1_lostOf_37 (by decide) ?_
        exact ih (by omega) _ (by omega) (by show _ = sumI _ ((i : Int) + 1); rw [sumI_s (by omega), hz]; first | (rw [b2i_dt (by omega)]; done) | (rw [b2i_df (by omega)]; done))
      · refine y_iconst E dX1_lostOf_27 ?_
        refine y_goto (tgt := 32) E dX1_lostOf_28 (by decide) ?_
        refine y_iadd E dX1_lostOf_32 ?_
        refine y_istore_n (j := 1) E dX1_lostOf_33 rfl (Nat.le_of_ble_eq_true rfl) ?_
        refine y_iinc E dX1_lostOf_34 (by rfl) ?_
        refine y_goto (tgt := 4) E dX1_lostOf_37 (by decide) ?_
        exact ih (by omega) _ (by omega) (by show _ = sumI _ ((i : Int) + 1); rw [sumI_s (by omega), hz]; first | (rw [b2i_dt (by omega)]; done) | (rw [b2i_df (by omega)]; done))
  refine y_iconst E dX1_lostOf_0 ?_
  refine y_istore_n (j := 1) E dX1_lostOf_1 rfl (Nat.le_of_ble_eq_true rfl) ?_
  refine y_iconst E dX1_lostOf_2 ?_
  refine y_istore_n (j := 2) E dX1_lostOf_3 rfl (Nat.le_of_ble_eq_true rfl) ?_
  exact loop 0 0 (by omega) (sumI_0 _).symm
theorem c_X1_letter (hC : isC Γ G N x C I S T) {i : Int} (hi : inR i) : Ct_X1_letter Γ 6 1 6 [.ref x, .int (iI i)] (G) (fun v G' => ansI v (q_letter T i) ∧ G' = G) (fun E G' => xs [eI] (q_letter T i).1 E ∧ G' = G) := by
  refine y_start (lv0 := [some (.ref x), some (.int (iI i))]) (nm := "letter") (own := RX1) (by decide +kernel) rfl rfl (by exact Nat.le_of_ble_eq_true rfl) (by rfl) ?_
  intro Z Q E F
  have hx := hC.o
  obtain ⟨cs, hb, hc1, hc2, hc3⟩ := hC.w
  obtain ⟨fb, hbc⟩ : ∃ fb, G (kWd C) = some (some (0, 4), .inr (15, fb)) := by
    obtain ⟨q, cap, f, ml, g1, -⟩ := hb
    exact ⟨_, g1⟩
  have no : ¬ (0 ≤ i ∧ i ≤ T 18 0 - 1) → q_letter T i = (1, 0) := fun a => if_pos a
  have yes : 0 ≤ i ∧ i ≤ T 18 0 - 1 → q_letter T i = (0, T 16 i) := fun a => if_neg (fun q => q a)
  have hci := fun h : 0 ≤ i ∧ i ≤ T 18 0 - 1 => hc3 i.toNat (by omega)
  refine y_iload_n E dX1_letter_0 (by rfl) ?_
  refine y_iconst E dX1_letter_1 ?_
  first | refine y_ald_n E dX1_letter_2 (by rfl) ?_ | refine y_aload_n E dX1_letter_2 (by rfl) ?_
  refine y_get E dX1_letter_3 fl_X1_30_X1 (hx) (by rfl) ?_
  refine y_callV E dX1_letter_6 lk_X1_345 (c_J6_length hb) (by rfl) (hbc) rfl (by decide) (by omega) (by omega) rfl (Nat.le_of_ble_eq_true rfl) ?_ (fun _ _ _ h => h.elim)
  rintro _ _ ⟨rfl, hG9⟩
  rw [hG9]
  clear hG9
  rw [← hc1]
  refine y_iconst E dX1_letter_9 ?_
  refine y_isub E dX1_letter_10 ?_
  refine y_callS E dX1_letter_11 lk_X1_85 (c_X1_isBetween hi (by omega) (by omega)) (by rfl) (by decide) (by omega) (by omega) rfl (Nat.le_of_ble_eq_true rfl) ?_ (fun _ _ _ h => h.elim)
  rintro _ _ ⟨rfl, hG9⟩
  rw [hG9]
  clear hG9
  refine y_callS E dX1_letter_14 lk_X1_122 (c_X1_checkIndex_b) (by rfl) (by decide) (by omega) (by omega) rfl (Nat.le_of_ble_eq_true rfl) ?_ ?_
  swap
  · rintro _ _ _ ⟨rfl, h14, rfl⟩
    exact y_xout E F (by omega) (by omega) (⟨xs_0 (okP (no h14)).1, rfl⟩)
  rintro _ _ ⟨rfl, h14, rfl⟩
  first | refine y_ald_n E dX1_letter_17 (by rfl) ?_ | refine y_aload_n E dX1_letter_17 (by rfl) ?_
  refine y_get E dX1_letter_18 fl_X1_30_X1 (hx) (by rfl) ?_
  refine y_iload_n E dX1_letter_21 (by rfl) ?_
  rw [show i = ((i.toNat : Nat) : Int) by omega]
  refine y_callV E dX1_letter_22 lk_X1_360 (c_J6_charAt (i := i.toNat) hb (hci h14).1) (by rfl) (hbc) rfl (by decide) (by omega) (by omega) rfl (Nat.le_of_ble_eq_true rfl) ?_ (fun _ _ _ h => h.elim)
  rintro _ _ ⟨rfl, hG9⟩
  rw [hG9]
  clear hG9
  have hci := (hci h14).2
  rw [show ((i.toNat : Nat) : Int) = i by omega] at hci ⊢
  refine y_ireturn E F rfl (nar_c (by omega)) dX1_letter_25 (by omega) (by omega) ⟨ansI_i (yes h14), rfl⟩
theorem c_X1_isWhole (hC : isC Γ G N x C I S T) : Ct_X1_isWhole Γ 7 1 6 [.ref x] (G) (fun v G' => ansI v (q_whole T) ∧ G' = G) (fun E G' => xs [eN] (q_whole T).1 E ∧ G' = G) := by
  refine y_start (lv0 := [some (.ref x)]) (nm := "isWhole") (own := RX1) (by decide +kernel) rfl rfl (by exact Nat.le_of_ble_eq_true rfl) (by rfl) ?_
  intro Z Q E F
  have hx := hC.o
  unfold hcS at hx
  obtain ⟨cs, hb, hc⟩ := hC.w
  have hc1 := hc.1
  have hc2 := hc.2.1
  obtain ⟨fb, hbc⟩ : ∃ fb, G (kWd C) = some (some (0, 4), .inr (15, fb)) := by
    obtain ⟨q, cap, f, ml, g1, -⟩ := hb
    exact ⟨_, g1⟩
  have hlr : 0 ≤ lostS T ∧ lostS T ≤ 1 * T 18 0 := sumI_b (fun k k0 k1 => by by_cases e : T 16 k = 63; · rw [b2i_dt e]; omega; · rw [b2i_df e]; omega) (by omega)
  have no : T 18 0 = 0 → q_whole T = (1, 0) := fun a => if_pos a
  have yes : ¬ T 18 0 = 0 → q_whole T = (0, b2i (dB (lostS T = 0))) := fun a => if_neg a
  first | refine y_ald_n E dX1_isWhole_0 (by rfl) ?_ | refine y_aload_n E dX1_isWhole_0 (by rfl) ?_
  refine y_get E dX1_isWhole_1 fl_X1_385_X1 (hx) (by rfl) ?_
  refine y_callS E dX1_isWhole_4 lk_X1_286 (c_X1_checkElement_b) (by rfl) (by decide) (by omega) (by omega) rfl (Nat.le_of_ble_eq_true rfl) ?_ ?_
  swap
  · rintro _ _ _ ⟨rfl, h4, rfl⟩
    exact y_xout E F (by omega) (by omega) (⟨xs_0 (okP (no (by omega))).1, rfl⟩)
  rintro _ _ ⟨rfl, h4, rfl⟩
  first | refine y_ald_n E dX1_isWhole_7 (by rfl) ?_ | refine y_aload_n E dX1_isWhole_7 (by rfl) ?_
  refine y_get E dX1_isWhole_8 fl_X1_30_X1 (hx) (by rfl) ?_
  refine y_callS E dX1_isWhole_11 lk_X1_388 (c_X1_lostOf hb hc (by decide)) (by rfl) (by decide) (by omega) (by omega) rfl (Nat.le_of_ble_eq_true rfl) ?_ (fun _ _ _ h => h.elim)
  rintro _ _ ⟨rfl, hG9⟩
  rw [hG9]
  clear hG9
  refine y_top (v' := .int (iI (lostS T))) rfl ?_
  refine y_if_ne (tgt := 21) E dX1_isWhole_14 (by decide) (by omega) (fun h14 => ?_) (fun h14 => ?_)
  · refine y_iconst E dX1_isWhole_21 ?_
    refine y_ireturn E F rfl rfl dX1_isWhole_22 (by omega) (by omega) ⟨ansI_i (by rw [yes h4]; first | (rw [b2i_dt (by omega)]; done) | (rw [b2i_df (by omega)]; done)), rfl⟩
  · refine y_iconst E dX1_isWhole_17 ?_
    refine y_goto (tgt := 22) E dX1_isWhole_18 (by decide) ?_
    refine y_ireturn E F rfl rfl dX1_isWhole_22 (by omega) (by omega) ⟨ansI_i (by rw [yes h4]; first | (rw [b2i_dt (by omega)]; done) | (rw [b2i_df (by omega)]; done)), rfl⟩
theorem c_X1_append (hB : gB Γ G) (hC : isC Γ G N x C I S T) {c : Int} (hcr : 0 ≤ c ∧ c < 65536) : Ct_X1_append Γ 7 1 130 [.ref x, .int (iI c)] (G) (fun v G' => ((o_append T c).2 0 0 = 0 ∧ v = some (.int (iI (o_append T c).1))) ∧ isC Γ G' N x C I S (o_append T c).2 ∧ gK (· = (0, 3)) G G') (fun E G' => xs [eA, eS] ((o_append T c).2 0 0) E ∧ isC Γ G' N x C I S (o_append T c).2 ∧ gK (· = (0, 3)) G G') := by
  refine y_start (lv0 := [some (.ref x), some (.int (iI c))]) (nm := "append") (own := RX1) (by decide +kernel) rfl rfl (by exact Nat.le_of_ble_eq_true rfl) (by rfl) ?_
  intro Z Q E F
  have hx := hC.o
  obtain ⟨cs, hb, hc1, hc2, hc3⟩ := hC.i
  obtain ⟨fb, hbc⟩ : ∃ fb, G (kIn C) = some (some (0, 3), .inr (15, fb)) := by
    obtain ⟨q, cap, f, ml, g1, -⟩ := hb
    exact ⟨_, g1⟩
  have no : ¬ (33 ≤ c ∧ c ≤ 126) → o_append T c = (0, failT T 1) := fun a => if_pos a
  have no2 : 33 ≤ c ∧ c ≤ 126 → T 17 0 = 60 → o_append T c = (0, failT T 2) := fun a b => by unfold o_append; rw [if_neg (fun q => q a), if_pos b]
  have yes : 33 ≤ c ∧ c ≤ 126 → T 17 0 ≠ 60 → o_append T c = (T 17 0 + 1, upN (upN (upN T 0 (fun _ => 0)) 15 (upI (T 15) (T 17 0) c)) 17 (fun _ => T 17 0 + 1)) := fun a b => by unfold o_append; rw [if_neg (fun q => q a), if_neg b]
  refine y_iload_n E dX1_append_0 (by rfl) ?_
  refine y_bipush E dX1_append_1 (by decide) ?_
  refine y_bipush E dX1_append_3 (by decide) ?_
  refine y_callS E dX1_append_5 lk_X1_85 (c_X1_isBetween (a := c) (by omega) (by omega) (by omega)) (by rfl) (by decide) (by omega) (by omega) rfl (Nat.le_of_ble_eq_true rfl) ?_ (fun _ _ _ h => h.elim)
  rintro _ _ ⟨rfl, hG9⟩
  rw [hG9]
  clear hG9
  refine y_callS E dX1_append_8 lk_X1_126 (c_X1_check_b) (by rfl) (by decide) (by omega) (by omega) rfl (Nat.le_of_ble_eq_true rfl) ?_ ?_
  swap
  · rintro _ _ _ ⟨rfl, h8, rfl⟩
    exact y_xout E F (by omega) (by omega) (by rw [no h8]; exact ⟨xs_0 rfl, hC.f0, gK_refl⟩)
  rintro _ _ ⟨rfl, h8, rfl⟩
  first | refine y_ald_n E dX1_append_11 (by rfl) ?_ | refine y_aload_n E dX1_append_11 (by rfl) ?_
  refine y_get E dX1_append_12 fl_X1_26_X1 (hx) (by rfl) ?_
  refine y_callV E dX1_append_15 lk_X1_345 (c_J6_length hb) (by rfl) (hbc) rfl (by decide) (by omega) (by omega) rfl (Nat.le_of_ble_eq_true rfl) ?_ (fun _ _ _ h => h.elim)
  rintro _ _ ⟨rfl, hG9⟩
  rw [hG9]
  clear hG9
  refine y_bipush E dX1_append_18 (by decide) ?_
  refine y_icmp_ge (tgt := 27) E dX1_append_20 (by decide) (by omega) (by omega) (fun h20 => ?_) (fun h20 => ?_)
  · refine y_iconst E dX1_append_27 ?_
    refine y_callS E dX1_append_28 lk_X1_129 (c_X1_checkState_f) (by rfl) (by decide) (by omega) (by omega) rfl (Nat.le_of_ble_eq_true rfl) (fun _ _ h => h.elim) ?_
    rintro _ _ _ ⟨rfl, rfl⟩
    exact y_xout E F (by omega) (by omega) (by rw [no2 h8 (by omega)]; exact ⟨xs_1 rfl, hC.f0, gK_refl⟩)
  · refine y_iconst E dX1_append_23 ?_
    refine y_goto (tgt := 28) E dX1_append_24 (by decide) ?_
    refine y_callS E dX1_append_28 lk_X1_129 (c_X1_checkState_t) (by rfl) (by decide) (by omega) (by omega) rfl (Nat.le_of_ble_eq_true rfl) ?_ (fun _ _ _ h => h.elim)
    rintro _ _ ⟨rfl, rfl⟩
    first | refine y_ald_n E dX1_append_31 (by rfl) ?_ | refine y_aload_n E dX1_append_31 (by rfl) ?_
    refine y_get E dX1_append_32 fl_X1_26_X1 (hx) (by rfl) ?_
    refine y_iload_n E dX1_append_35 (by rfl) ?_
    refine y_callV E dX1_append_36 lk_X1_346 (c_J6_append hb (by omega) (by omega)) (by rfl) (hbc) rfl (by decide) (by omega) (by omega) rfl (Nat.le_of_ble_eq_true rfl) ?_ (fun _ _ _ h => h.elim)
    rintro _ G2 ⟨rfl, hb2, hk2⟩
    obtain ⟨fb2, hbc2⟩ : ∃ fb, G2 (kIn C) = some (some (0, 3), .inr (15, fb)) := by
      obtain ⟨q, cap, f, ml, g1, -⟩ := hb2
      exact ⟨_, g1⟩
    have hbc := hbc2
    have hx := hk2.at hx (by decide)
    have hlen : (((cs ++ [c]).length : Nat) : Int) = T 17 0 + 1 := by rw [List.length_append, List.length_singleton]; omega
    refine y_pop E dX1_append_39 rfl ?_
    first | refine y_ald_n E dX1_append_40 (by rfl) ?_ | refine y_aload_n E dX1_append_40 (by rfl) ?_
    refine y_get E dX1_append_41 fl_X1_26_X1 (hx) (by rfl) ?_
    refine y_callV E dX1_append_44 lk_X1_345 (c_J6_length hb2) (by rfl) (hbc) rfl (by decide) (by omega) (by omega) rfl (Nat.le_of_ble_eq_true rfl) ?_ (fun _ _ _ h => h.elim)
    rintro _ _ ⟨rfl, hG9⟩
    rw [hG9]
    clear hG9
    rw [hlen]
    refine y_ireturn E F rfl rfl dX1_append_47 (by omega) (by omega) (by
        rw [yes h8 (by omega)]
        exact ⟨⟨rfl, rfl⟩, isC_in hB hC hk2 hb2 ⟨hlen.symm, by rw [List.length_append, List.length_singleton]; omega, fun i hi => (by
          rw [List.length_append, List.length_singleton] at hi
          by_cases e : i = cs.length
          · subst e
            rw [← hc1, upI_s, List.getElem?_append_right (Nat.le_refl _), Nat.sub_self]
            exact ⟨rfl, h8⟩
          · rw [upI_n _ (by omega), List.getElem?_append_left (by omega)]
            exact hc3 i (by omega))⟩, hk2⟩)
theorem c_X1_towerWith (hB : gB Γ G) (hx : G x = some (t0, coE C hc fp)) (hI : isST Γ G st (kSt C) S w) (hS : SH w) (hL : LSW w) (hWC : WC w) {l : Nat} (hl : (l : Int) < w 11) : Ct_X1_towerWith Γ 3 1 4 [.ref x, .ref (sLa S l)] (G) (fun v G' => v = some (.int (iI (lw w l 2))) ∧ G' = G) (noX) := by
  refine y_start (lv0 := [some (.ref x), some (.ref (sLa S l)), none, none]) (nm := "towerWith") (own := RX1) (by decide +kernel) rfl rfl (by exact Nat.le_of_ble_eq_true rfl) (by rfl) ?_
  intro Z Q E F
  have hst := hI.1
  have hn := hS.nt
  have hnl := hS.nl
  have hlen := twL_len S w
  have hal := hI.2.1
  obtain ⟨fal, hac⟩ := hal.c
  have hSl := hS.l (l := (l : Int)) (by omega) (by omega)
  have key : ∀ i : Int, 0 ≤ i → i < w 10 → (lnO w S i = some (sLa S l) ↔ lw w l 2 = i) := fun i i0 i1 => by
    constructor
    · intro e
      by_cases h3 : tw w i 3 < 0
      · rw [lnO_n h3] at e
        cases e
      · rw [lnO_s (by omega)] at e
        have h4 := hL i i0 i1
        have := sLa_inj hI (by omega) (t := (tw w i 3).toNat) (u := l) (by omega) hl (Option.some.inj e)
        have h5 := hWC.1 i i0 i1 (by omega)
        rw [show tw w i 3 = (l : Int) by omega] at h5
        exact h5
    · intro e
      have h5 := (hWC.2.1 l (by omega) hl (by omega)).2
      rw [e] at h5
      rw [lnO_s (by omega), h5, Int.toNat_natCast]
  have loop : ∀ it, G it = none → ∀ i : Nat, ∀ (G1 : yH) (l3 : Option Value), gExt G G1 → isIT Γ G1 it (sTl S) (st, 1) (twL S w) i → (i : Int) ≤ w 10 → (∀ j : Int, 0 ≤ j → j < i → lw w l 2 ≠ j) → Y Γ Z 1 4 Q G1 11 [some (.ref x), some (.ref (sLa S l)), some (.ref it), l3] [] := by
    intro it h0
    refine loopDownN (w 10).toNat ?_
    intro i ih G1 l3 hE hit hi hno
    obtain ⟨fs, hitc⟩ := hit.c
    have hlw := isST_l (hI.e hB hE) (l := l) hl
    unfold lnX lnE at hlw
    rw [← dB_d] at hlw
    have hwl : ¬ 0 ≤ lw w l 2 ∨ lw w l 2 < w 10 := by
      by_cases e : 0 ≤ lw w l 2
      · exact Or.inr (hWC.2.1 l (by omega) hl e).1
      · exact Or.inl e
    first | refine y_ald_n E dX1_towerWith_11 (by rfl) ?_ | refine y_aload_n E dX1_towerWith_11 (by rfl) ?_
    refine y_callF E dX1_towerWith_12 lk_X1_136_J24 (c_it_has hit (by omega)) (by rfl) (hitc) rfl (by decide) (by omega) (by omega) rfl (Nat.le_of_ble_eq_true rfl) ?_ (fun _ _ _ h => h.elim)
    rintro _ _ ⟨rfl, hG9⟩
    rw [hG9]
    clear hG9
    refine y_ifd_eq (tgt := 46) E dX1_towerWith_17 (by decide) (fun h17 => ?_) (fun h17 => ?_)
    · first | refine y_ald_n E dX1_towerWith_46 (by rfl) ?_ | refine y_aload_n E dX1_towerWith_46 (by rfl) ?_
      refine y_getN E dX1_towerWith_47 fl_X1_266_X5 (hlw) (by rfl) ?_
      refine y_ifb_eq (tgt := 58) E dX1_towerWith_50 (by decide) (fun h50 => ?_) (fun h50 => ?_)
      · refine y_iconst E dX1_towerWith_58 ?_
        refine y_forget hE ?_
        refine y_ireturn E F rfl rfl dX1_towerWith_59 (by omega) (by omega) ⟨rI (by have e1 := hno (lw w l 2); first | (have q := dB_iff.mp h50; omega) | (have q := dB_nf.mp h50; omega)), rfl⟩
      · refine y_bipush E dX1_towerWith_53 (by decide) ?_
        refine y_goto (tgt := 59) E dX1_towerWith_55 (by decide) ?_
        refine y_forget hE ?_
        refine y_ireturn E F rfl rfl dX1_towerWith_59 (by omega) (by omega) ⟨rI (by have e1 := hno (lw w l 2); first | (have q := dB_iff.mp h50; omega) | (have q := dB_nf.mp h50; omega)), rfl⟩
    · first | refine y_ald_n E dX1_towerWith_20 (by rfl) ?_ | refine y_aload_n E dX1_towerWith_20 (by rfl) ?_
      refine y_callF E dX1_towerWith_21 lk_X1_142_J24 (c_it_next hit (twL_at (by omega))) (by rfl) (hitc) rfl (by decide) (by omega) (by omega) rfl (Nat.le_of_ble_eq_true rfl) ?_ (fun _ _ _ h => h.elim)
      rintro _ _ ⟨rfl, hit2, vv, hG9⟩
      rw [hG9] at hit2 ⊢
      clear hG9
      have hE2 := gExt_w hE (some yT0, vv) h0
      have htw := isST_t (hI.e hB hE2) (t := i) (by omega)
      unfold twX twE at htw
      refine y_ccast E dX1_towerWith_26 q1200 (htw) rfl (Or.inl rfl) ?_
      first | refine y_ast_n (j := 3) E dX1_towerWith_29 rfl (Nat.le_of_ble_eq_true rfl) ?_ | refine y_astore_n (j := 3) E dX1_towerWith_29 rfl (Nat.le_of_ble_eq_true rfl) ?_ | refine y_astore_n (j := 3) (r := none) E dX1_towerWith_29 rfl (Nat.le_of_ble_eq_true rfl) ?_
      first | refine y_ald_n E dX1_towerWith_30 (by rfl) ?_ | refine y_aload_n E dX1_towerWith_30 (by rfl) ?_
      refine y_getN E dX1_towerWith_31 fl_X1_250_X6 (htw) (by rfl) ?_
      first | refine y_ald_n E dX1_towerWith_34 (by rfl) ?_ | refine y_aload_n E dX1_towerWith_34 (by rfl) ?_
      refine y_acmp_ne (x := lnO w S i) (y := some (sLa S l)) (tgt := 43) E dX1_towerWith_35 (by decide) (fun h35 => ?_) (fun h35 => ?_)
      · refine y_goto (tgt := 11) E dX1_towerWith_43 (by decide) ?_
        exact ih (by omega) _ _ hE2 hit2 (by omega) (fun j j0 j1 e => by
          by_cases e2 : j = i
          · subst e2
            exact h35 ((key _ (by omega) (by omega)).mpr e)
          · exact hno j j0 (by omega) e)
      · refine y_forget hE2 ?_
        have htw := isST_t hI (t := i) (by omega)
        unfold twX twE at htw
        first | refine y_ald_n E dX1_towerWith_38 (by rfl) ?_ | refine y_aload_n E dX1_towerWith_38 (by rfl) ?_
        refine y_getN E dX1_towerWith_39 fl_X1_150_X6 (htw) (by rfl) ?_
        refine y_ireturn E F rfl rfl dX1_towerWith_42 (by omega) (by omega) ⟨rI ((key _ (by omega) (by omega)).mp h35).symm, rfl⟩
  first | refine y_ald_n E dX1_towerWith_0 (by rfl) ?_ | refine y_aload_n E dX1_towerWith_0 (by rfl) ?_
  refine y_get E dX1_towerWith_1 fl_X1_10_X1 (hx) (by rfl) ?_
  refine y_getN E dX1_towerWith_4 fl_X1_78_X2 (hst) (by rfl) ?_
  refine y_callV E dX1_towerWith_7 lk_X1_132 (c_it_new hB hal) (by rfl) (hac) rfl (by decide) (by omega) (by omega) rfl (Nat.le_of_ble_eq_true rfl) ?_ (fun _ _ _ h => h.elim)
  rintro _ G1 ⟨it, vv, rfl, h0, hit, hG9⟩
  first | refine y_ast_n (j := 2) E dX1_towerWith_10 rfl (Nat.le_of_ble_eq_true rfl) ?_ | refine y_astore_n (j := 2) E dX1_towerWith_10 rfl (Nat.le_of_ble_eq_true rfl) ?_ | refine y_astore_n (j := 2) (r := none) E dX1_towerWith_10 rfl (Nat.le_of_ble_eq_true rfl) ?_
  exact loop it h0 0 G1 _ (by rw [hG9]; exact gExt_n h0) hit (by omega) (fun j j0 j1 => by omega)
theorem c_X1_lensOf (hB : gB Γ G) (hC : isC Γ G N x C I S T) (hS : SH (T 5)) (hL : LSW (T 5)) (hW : SW (T 5)) (hWC : WC (T 5)) {l i : Int} (hl : inR l) (hi : inR i) : Ct_X1_lensOf Γ 4 2 10 [.ref x, .int (iI l), .int (iI i)] (G) (fun v G' => ansI v (q_lensOf (T 5) l i) ∧ G' = G) (fun E G' => xs [eI, eA] (q_lensOf (T 5) l i).1 E ∧ G' = G) := by
  refine y_start (lv0 := [some (.ref x), some (.int (iI l)), some (.int (iI i)), none]) (nm := "lensOf") (own := RX1) (by decide +kernel) rfl rfl (by exact Nat.le_of_ble_eq_true rfl) (by rfl) ?_
  intro Z Q E F
  have hx := hC.o
  have hI := hC.s
  have hst := hI.1
  have hn := hS.nt
  obtain ⟨w, hw⟩ : ∃ w, w = T 5 := ⟨_, rfl⟩
  rw [← hw] at hI hst hn hS ⊢
  rw [← hw] at hL hW hWC
  have hnl := hS.nl
  have hns := hS.ns
  have hal := hI.2.2.1
  have hll := hI.2.2.2.1
  obtain ⟨fal, hac⟩ := hal.c
  obtain ⟨fll, hlc⟩ := hll.c
  have hlen : ((lnL S w).length : Int) = w 11 := by rw [lnL_len]; omega
  have hsl : (soL S w).length = (w 12).toNat := by simp [soL]
  have no : ¬ (0 ≤ l ∧ l ≤ w 11 - 1) → q_lensOf w l i = (1, 0) := fun a => if_pos a
  have no2 : 0 ≤ l ∧ l ≤ w 11 - 1 → ¬ (0 ≤ i ∧ i ≤ 3) → q_lensOf w l i = (2, 0) := fun a b => by unfold q_lensOf; rw [if_neg (fun q => q a), if_pos b]
  have y3 : 0 ≤ l ∧ l ≤ w 11 - 1 → i = 3 → q_lensOf w l i = (0, fstI (fun k => w (13 + k) = l) (w 12)) := fun a b => by unfold q_lensOf; rw [if_neg (fun q => q a), if_neg (fun q => q (by omega)), if_pos b]
  have y0 : 0 ≤ l ∧ l ≤ w 11 - 1 → 0 ≤ i → i < 3 → q_lensOf w l i = (0, w (89 + 3 * l + i)) := fun a b c => by unfold q_lensOf; rw [if_neg (fun q => q a), if_neg (fun q => q (by omega)), if_neg (by omega)]
  have hsat : ∀ j : Nat, (j : Int) < w 12 → (soL S w)[j]? = some (sLa S (w (13 + (j : Int))).toNat) := fun j hj => by
    unfold soL
    rw [List.getElem?_map, List.getElem?_range (by omega)]
    rfl
  have hwl : 0 ≤ l ∧ l ≤ w 11 - 1 → G (sLa S l.toNat) = some (some (I.1, 6), .inr (1, [.int (iI l), .int (iI (lw w l 1)), .int (iI (lw w l 0)), .int (iI (b2i (decide (lw w l 2 = -2))))])) := fun a => by
    have := isST_l hI (l := l.toNat) (by omega)
    unfold lnX lnE at this
    rw [show ((l.toNat : Nat) : Int) = l by omega] at this
    exact this
  have K80 : 0 ≤ l ∧ l ≤ w 11 - 1 → i = 3 → Y Γ Z 0 0 Q G 80 [some (.ref x), some (.int (iI l)), some (.int (iI i)), some (.ref (sLa S l.toNat))] [] := by
    intro h17 i3
    have hlw := hwl h17
    have hso := hS.sto
    by_cases hf : ∃ k : Int, 0 ≤ k ∧ k < w 12 ∧ w (13 + k) = l
    · obtain ⟨k, k0, k1, k2⟩ := hf
      have hfs : fstI (fun k => w (13 + k) = l) (w 12) = k := fst_hit k0 k1 k2 (fun j j0 j1 e => hWC.2.2.2.1 j k j0 j1 k1 (by rw [e, k2]))
      first | refine y_ald_n E dX1_lensOf_80 (by rfl) ?_ | refine y_aload_n E dX1_lensOf_80 (by rfl) ?_
      refine y_get E dX1_lensOf_81 fl_X1_10_X1 (hx) (by rfl) ?_
      refine y_getN E dX1_lensOf_84 fl_X1_173_X2 (hst) (by rfl) ?_
      first | refine y_ald_n E dX1_lensOf_87 (by rfl) ?_ | refine y_aload_n E dX1_lensOf_87 (by rfl) ?_
      refine y_callV E dX1_lensOf_88 lk_X1_452 (c_J4_indexOf (j := k.toNat) hll hlw (by rw [hsat k.toNat (by omega), show ((k.toNat : Nat) : Int) = k by omega, k2]) (fun j hj e => by rw [hsat j (by omega)] at e; have e2 := sLa_inj hI (by omega) (by have := hW j (by omega) (by omega); have := hso (k := (j : Int)) (by omega) (by omega); omega) (by omega) (Option.some.inj e); have := hso (k := (j : Int)) (by omega) (by omega); exact hWC.2.2.2.1 j k (by omega) (by omega) k1 (by omega)) (by rw [hsl]; omega)) (by rfl) (hlc) rfl (by decide) (by omega) (by omega) rfl (Nat.le_of_ble_eq_true rfl) ?_ (fun _ _ _ h => h.elim)
      rintro _ _ ⟨rfl, hG9⟩
      rw [hG9]
      clear hG9
      refine y_ireturn E F rfl rfl dX1_lensOf_91 (by omega) (by omega) ⟨ansI_i (by rw [y3 h17 i3, hfs, show ((k.toNat : Nat) : Int) = k by omega]), rfl⟩
    · have hfs : fstI (fun k => w (13 + k) = l) (w 12) = -1 := fst_miss (by omega) (fun j j0 j1 e => hf ⟨j, j0, j1, e⟩)
      first | refine y_ald_n E dX1_lensOf_80 (by rfl) ?_ | refine y_aload_n E dX1_lensOf_80 (by rfl) ?_
      refine y_get E dX1_lensOf_81 fl_X1_10_X1 (hx) (by rfl) ?_
      refine y_getN E dX1_lensOf_84 fl_X1_173_X2 (hst) (by rfl) ?_
      first | refine y_ald_n E dX1_lensOf_87 (by rfl) ?_ | refine y_aload_n E dX1_lensOf_87 (by rfl) ?_
      refine y_callV E dX1_lensOf_88 lk_X1_452 (c_J4_indexOf_n hll hlw (fun j e => by have hj : j < (soL S w).length := (List.getElem?_eq_some_iff.mp e).1; rw [hsl] at hj; rw [hsat j (by omega)] at e; have e2 := sLa_inj hI (by omega) (by have := hW j (by omega) (by omega); have := hso (k := (j : Int)) (by omega) (by omega); omega) (by omega) (Option.some.inj e); have := hso (k := (j : Int)) (by omega) (by omega); exact hf ⟨j, by omega, by omega, by omega⟩) (by rw [hsl]; omega)) (by rfl) (hlc) rfl (by decide) (by omega) (by omega) rfl (Nat.le_of_ble_eq_true rfl) ?_ (fun _ _ _ h => h.elim)
      · first | omega | (simp (decide := true) only [upN_s, upN_n, upN_upN, upN_id, remT_5, remT_8] <;> omega)
      rintro _ _ ⟨rfl, hG9⟩
      rw [hG9]
      clear hG9
      refine y_ireturn E F rfl rfl dX1_lensOf_91 (by omega) (by omega) ⟨ansI_i (by rw [y3 h17 i3, hfs]), rfl⟩
  refine y_iload_n E dX1_lensOf_0 (by rfl) ?_
  refine y_iconst E dX1_lensOf_1 ?_
  first | refine y_ald_n E dX1_lensOf_2 (by rfl) ?_ | refine y_aload_n E dX1_lensOf_2 (by rfl) ?_
  refine y_get E dX1_lensOf_3 fl_X1_10_X1 (hx) (by rfl) ?_
  refine y_getN E dX1_lensOf_6 fl_X1_167_X2 (hst) (by rfl) ?_
  refine y_callV E dX1_lensOf_9 lk_X1_81 (c_AL_size hal) (by rfl) (hac) rfl (by decide) (by omega) (by omega) rfl (Nat.le_of_ble_eq_true rfl) ?_ (fun _ _ _ h => h.elim)
  rintro _ _ ⟨rfl, hG9⟩
  rw [hG9]
  clear hG9
  rw [hlen]
  refine y_iconst E dX1_lensOf_12 ?_
  refine y_isub E dX1_lensOf_13 ?_
  refine y_callS E dX1_lensOf_14 lk_X1_85 (c_X1_isBetween hl (by omega) (by omega)) (by rfl) (by decide) (by omega) (by omega) rfl (Nat.le_of_ble_eq_true rfl) ?_ (fun _ _ _ h => h.elim)
  rintro _ _ ⟨rfl, hG9⟩
  rw [hG9]
  clear hG9
  refine y_callS E dX1_lensOf_17 lk_X1_122 (c_X1_checkIndex_b) (by rfl) (by decide) (by omega) (by omega) rfl (Nat.le_of_ble_eq_true rfl) ?_ ?_
  swap
  · rintro _ _ _ ⟨rfl, h17, rfl⟩
    exact y_xout E F (by omega) (by omega) (⟨xs_0 (okP (no h17)).1, rfl⟩)
  rintro _ _ ⟨rfl, h17, rfl⟩
  refine y_iload_n E dX1_lensOf_20 (by rfl) ?_
  refine y_iconst E dX1_lensOf_21 ?_
  refine y_iconst E dX1_lensOf_22 ?_
  refine y_callS E dX1_lensOf_23 lk_X1_85 (c_X1_isBetween hi (by omega) (by omega)) (by rfl) (by decide) (by omega) (by omega) rfl (Nat.le_of_ble_eq_true rfl) ?_ (fun _ _ _ h => h.elim)
  rintro _ _ ⟨rfl, hG9⟩
  rw [hG9]
  clear hG9
  refine y_callS E dX1_lensOf_26 lk_X1_126 (c_X1_check_b) (by rfl) (by decide) (by omega) (by omega) rfl (Nat.le_of_ble_eq_true rfl) ?_ ?_
  swap
  · rintro _ _ _ ⟨rfl, h26, rfl⟩
    exact y_xout E F (by omega) (by omega) (⟨xs_1 (okP (no2 h17 h26)).1, rfl⟩)
  rintro _ _ ⟨rfl, h26, rfl⟩
  first | refine y_ald_n E dX1_lensOf_29 (by rfl) ?_ | refine y_aload_n E dX1_lensOf_29 (by rfl) ?_
  refine y_get E dX1_lensOf_30 fl_X1_10_X1 (hx) (by rfl) ?_
  refine y_getN E dX1_lensOf_33 fl_X1_167_X2 (hst) (by rfl) ?_
  refine y_iload_n E dX1_lensOf_36 (by rfl) ?_
  rw [show l = ((l.toNat : Nat) : Int) by omega]
  refine y_callV E dX1_lensOf_37 lk_X1_112 (c_AL_get (i := l.toNat) hal (lnL_at (by omega))) (by rfl) (hac) rfl (by decide) (by omega) (by omega) rfl (Nat.le_of_ble_eq_true rfl) ?_ (fun _ _ _ h => h.elim)
  rintro _ _ ⟨rfl, hG9⟩
  rw [hG9]
  clear hG9
  have hlw := hwl h17
  refine y_ccast E dX1_lensOf_40 q1327 (hlw) rfl (Or.inl rfl) ?_
  first | refine y_ast_n (j := 3) E dX1_lensOf_43 rfl (Nat.le_of_ble_eq_true rfl) ?_ | refine y_astore_n (j := 3) E dX1_lensOf_43 rfl (Nat.le_of_ble_eq_true rfl) ?_ | refine y_astore_n (j := 3) (r := none) E dX1_lensOf_43 rfl (Nat.le_of_ble_eq_true rfl) ?_
  refine y_iload_n E dX1_lensOf_44 (by rfl) ?_
  refine y_if_ne (tgt := 55) E dX1_lensOf_45 (by decide) (by omega) (fun h45 => ?_) (fun h45 => ?_)
  · refine y_iload_n E dX1_lensOf_55 (by rfl) ?_
    refine y_iconst E dX1_lensOf_56 ?_
    refine y_icmp_ne (tgt := 67) E dX1_lensOf_57 (by decide) (by omega) (by omega) (fun h57 => ?_) (fun h57 => ?_)
    · refine y_iload_n E dX1_lensOf_67 (by rfl) ?_
      refine y_iconst E dX1_lensOf_68 ?_
      refine y_icmp_ne (tgt := 80) E dX1_lensOf_69 (by decide) (by omega) (by omega) (fun h69 => ?_) (fun h69 => ?_)
      · exact y_widen (by omega) (by omega) (K80 h17 (by omega))
      · first | refine y_ald_n E dX1_lensOf_72 (by rfl) ?_ | refine y_aload_n E dX1_lensOf_72 (by rfl) ?_
        first | refine y_ald_n E dX1_lensOf_73 (by rfl) ?_ | refine y_aload_n E dX1_lensOf_73 (by rfl) ?_
        refine y_callV E dX1_lensOf_74 lk_X1_448 (c_X1_towerWith hB hx hI hS hL hWC (l := l.toNat) (by omega)) (by rfl) (hx) rfl (by decide) (by omega) (by omega) rfl (Nat.le_of_ble_eq_true rfl) ?_ (fun _ _ _ h => h.elim)
        rintro _ _ ⟨rfl, hG9⟩
        rw [hG9]
        clear hG9
        rw [show ((l.toNat : Nat) : Int) = l by omega]
        refine y_goto (tgt := 91) E dX1_lensOf_77 (by decide) ?_
        refine y_ireturn E F rfl rfl dX1_lensOf_91 (by omega) (by omega) ⟨ansI_i (by rw [y0 h17 (by omega) (by omega)]; unfold lw; congr 2; omega), rfl⟩
    · first | refine y_ald_n E dX1_lensOf_60 (by rfl) ?_ | refine y_aload_n E dX1_lensOf_60 (by rfl) ?_
      refine y_getN E dX1_lensOf_61 fl_X1_447_X5 (hlw) (by rfl) ?_
      refine y_goto (tgt := 91) E dX1_lensOf_64 (by decide) ?_
      refine y_ireturn E F rfl rfl dX1_lensOf_91 (by omega) (by omega) ⟨ansI_i (by rw [y0 h17 (by omega) (by omega)]; unfold lw; congr 2; omega), rfl⟩
  · first | refine y_ald_n E dX1_lensOf_48 (by rfl) ?_ | refine y_aload_n E dX1_lensOf_48 (by rfl) ?_
    refine y_getN E dX1_lensOf_49 fl_X1_263_X5 (hlw) (by rfl) ?_
    refine y_goto (tgt := 91) E dX1_lensOf_52 (by decide) ?_
    refine y_ireturn E F rfl rfl dX1_lensOf_91 (by omega) (by omega) ⟨ansI_i (by rw [y0 h17 (by omega) (by omega)]; unfold lw; congr 2; omega), rfl⟩
end X1n
