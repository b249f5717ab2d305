/-! ===== State: which one to hide; what refuses ===== -/
section X2c
variable {Γ : yG} {G : yH} {st a : Nat} {S : SA} {w : Int → Int}
set_option maxHeartbeats 4000000
/-- a tower by its number; null below 0 -/
def twO (S : SA) (i : Int) : Option Nat := if i < 0 then none else some (sTa S i.toNat)
/-- pairs ahead of the tower i -/
def pcN : Nat → Nat
  | 0 => 0
  | i + 1 => pcN i + (7 - i)
theorem pcN_s (i : Nat) : pcN (i + 1) = pcN i + (7 - i) := rfl
theorem pcN_b : ∀ i : Nat, i < 9 → pcN i + (7 - i) ≤ 28 := by decide +kernel
theorem twO_s {S : SA} {i : Int} (h : 0 ≤ i) : twO S i = some (sTa S i.toNat) := by unfold twO; rw [if_neg (by omega)]
theorem twO_n {S : SA} {i : Int} (h : i < 0) : twO S i = none := by unfold twO; rw [if_pos h]
theorem c_X2_toHide (hB : gB Γ G) (hI : isST Γ G st a S w) (hS : SH w) (hL : LSW w) (hU : UT w) (hO : gOK G) : Ct_X2_toHide Γ 8 121 260 [.ref a] (G) (fun v G' => v = some (va_rf (twO S (misS w))) ∧ G' = G) (noX) := by
  refine y_start (lv0 := [some (.ref a), none, none, none, none]) (nm := "toHide") (own := RX2) (by decide +kernel) rfl rfl (by exact Nat.le_of_ble_eq_true rfl) (by rfl) ?_
  intro Z Q E F
  have hst := hI.1
  have hn := hS.nt
  have hlen := twL_len S w
  have hal := hI.2.1
  obtain ⟨fal, hac⟩ := hal.c
  have outer : ∀ it, G it = none → ∀ i : Nat, ∀ (G1 : yH) (l2 l3 l4 : Option Value), gExt G G1 → gOK G1 → isIT Γ G1 it (sTl S) (st, 1) (twL S w) i → (i : Int) ≤ w 10 → (∀ j k : Int, 0 ≤ j → j < i → j < k → k < w 10 → ¬ prP w j k) → Y Γ Z (1 + i + 4 * pcN i) (4 + 4 * i + 8 * pcN i) Q G1 8 [some (.ref a), some (.ref it), l2, l3, l4] [] := by
    intro it h0
    refine loopDownN (w 10).toNat ?_
    intro i ih G1 l2 l3 l4 hE hO1 hit hi hj
    obtain ⟨fs, hitc⟩ := hit.c
    have hpc := pcN_b i (by omega)
    have hps := pcN_s i
    have inner : (i : Int) < w 10 → ∀ G2, gExt G G2 → isIT Γ G2 it (sTl S) (st, 1) (twL S w) (i + 1) → ∀ it2, G2 it2 = none → ∀ j : Nat, ∀ (G3 : yH) (l4 : Option Value), gExt G2 G3 → gOK G3 → isIT Γ G3 it2 (sTl S) (st, 1) (twL S w) j → (j : Int) ≤ w 10 → (∀ k : Int, i < k → k < j → ¬ prP w i k) → Y Γ Z (2 + i + 4 * pcN i + 4 * (j - (i + 1))) (8 + 4 * i + 8 * pcN i + 8 * (j - (i + 1))) Q G3 35 [some (.ref a), some (.ref it), some (.ref (sTa S i)), some (.ref it2), l4] [] := by
      intro hin G2 hE2 hitn it2 h02
      refine loopDownN (w 10).toNat ?_
      intro j ihj G3 l4 hE3 hO3 hit3 hjn hk
      obtain ⟨fs3, hitc3⟩ := hit3.c
      have hSi := hS.t (t := (i : Int)) (by omega) (by omega)
      have hSj := fun h : (j : Int) < 8 => hS.t (t := (j : Int)) (by omega) h
      first | refine y_ald_n E dX2_toHide_35 (by rfl) ?_ | refine y_aload_n E dX2_toHide_35 (by rfl) ?_
      refine y_callF E dX2_toHide_36 lk_X2_37_J24 (c_it_has hit3 (by omega)) (by rfl) (hitc3) rfl (by decide) (by omega) (by omega) rfl (Nat.le_of_ble_eq_true rfl) ?_ (fun _ _ _ h => h.elim)
      rintro _ _ ⟨rfl, hG9⟩
      rw [hG9]
      clear hG9
      refine y_ifd_eq (tgt := 98) E dX2_toHide_41 (by decide) (fun h41 => ?_) (fun h41 => ?_)
      · refine y_goto (tgt := 8) E dX2_toHide_98 (by decide) ?_
        refine y_widen (by omega) (by omega) (ih (by omega) G3 _ _ _ (gExt_t hE2 hE3) hO3 (hitn.e hE3) (by omega) (fun x k x0 x1 x2 x3 => ?_))
        by_cases e : x = i
        · subst e
          exact hk k x2 (by omega)
        · exact hj x k x0 (by omega) x2 x3
      · first | refine y_ald_n E dX2_toHide_44 (by rfl) ?_ | refine y_aload_n E dX2_toHide_44 (by rfl) ?_
        refine y_callF E dX2_toHide_45 lk_X2_43_J24 (c_it_next hit3 (twL_at (by omega))) (by rfl) (hitc3) rfl (by decide) (by omega) (by omega) rfl (Nat.le_of_ble_eq_true rfl) ?_ (fun _ _ _ h => h.elim)
        rintro _ _ ⟨rfl, hit4, vv, hG9⟩
        rw [hG9] at hit4 ⊢
        clear hG9
        have hE4 := gExt_w hE3 (some yT0, vv) h02
        have hO4 := gOK_it hO3 (a := it2) (e := vv)
        have hE5 := gExt_t hE2 hE4
        have hB4 := hB.e hE5
        have hI4 := hI.e hB hE5
        have hst4 := hI4.1
        have hjw := isST_t hI4 (t := j) (by omega)
        have hiw := isST_t hI4 (t := i) (by omega)
        unfold twX twE at hjw hiw
        have hSj := hSj (by omega)
        refine y_ccast E dX2_toHide_50 q1008 (hjw) rfl (Or.inl rfl) ?_
        first | refine y_ast E dX2_toHide_53 (Nat.le_of_ble_eq_true rfl) ?_ | refine y_astore E dX2_toHide_53 (Nat.le_of_ble_eq_true rfl) ?_ | refine y_astore (r := none) E dX2_toHide_53 (Nat.le_of_ble_eq_true rfl) ?_
        first | refine y_ald_n E dX2_toHide_55 (by rfl) ?_ | refine y_aload_n E dX2_toHide_55 (by rfl) ?_
        refine y_getN E dX2_toHide_56 fl_X2_137_X6 (hiw) (by rfl) ?_
        first | refine y_ald E dX2_toHide_59 (by rfl) ?_ | refine y_aload E dX2_toHide_59 (by rfl) ?_
        refine y_getN E dX2_toHide_61 fl_X2_137_X6 (hjw) (by rfl) ?_
        refine y_icmp_ge (tgt := 95) E dX2_toHide_64 (by decide) (by omega) (by omega) (fun h64 => ?_) (fun h64 => ?_)
        · refine y_goto (tgt := 35) E dX2_toHide_95 (by decide) ?_
          refine y_widen (by omega) (by omega) (ihj (by omega) _ _ hE4 hO4 hit4 (by omega) (fun k k0 k1 => ?_))
          by_cases e : k = j
          · subst e
            first
              | exact fun q => h89 q.2.2
              | (exfalso; omega)
              | (intro q; have q1 := q.1; have q2 := q.2.1; omega)
          · exact hk k k0 (by omega)
        · first | refine y_ald_n E dX2_toHide_67 (by rfl) ?_ | refine y_aload_n E dX2_toHide_67 (by rfl) ?_
          refine y_getN E dX2_toHide_68 fl_X2_133_X6 (hiw) (by rfl) ?_
          refine y_if_eq (tgt := 95) E dX2_toHide_71 (by decide) (by omega) (fun h71 => ?_) (fun h71 => ?_)
          · refine y_goto (tgt := 35) E dX2_toHide_95 (by decide) ?_
            refine y_widen (by omega) (by omega) (ihj (by omega) _ _ hE4 hO4 hit4 (by omega) (fun k k0 k1 => ?_))
            by_cases e : k = j
            · subst e
              first
                | exact fun q => h89 q.2.2
                | (exfalso; omega)
                | (intro q; have q1 := q.1; have q2 := q.2.1; omega)
            · exact hk k k0 (by omega)
          · first | refine y_ald E dX2_toHide_74 (by rfl) ?_ | refine y_aload E dX2_toHide_74 (by rfl) ?_
            refine y_getN E dX2_toHide_76 fl_X2_133_X6 (hjw) (by rfl) ?_
            refine y_if_eq (tgt := 95) E dX2_toHide_79 (by decide) (by omega) (fun h79 => ?_) (fun h79 => ?_)
            · refine y_goto (tgt := 35) E dX2_toHide_95 (by decide) ?_
              refine y_widen (by omega) (by omega) (ihj (by omega) _ _ hE4 hO4 hit4 (by omega) (fun k k0 k1 => ?_))
              by_cases e : k = j
              · subst e
                first
                  | exact fun q => h89 q.2.2
                  | (exfalso; omega)
                  | (intro q; have q1 := q.1; have q2 := q.2.1; omega)
              · exact hk k k0 (by omega)
            · first | refine y_ald_n E dX2_toHide_82 (by rfl) ?_ | refine y_aload_n E dX2_toHide_82 (by rfl) ?_
              first | refine y_ald_n E dX2_toHide_83 (by rfl) ?_ | refine y_aload_n E dX2_toHide_83 (by rfl) ?_
              first | refine y_ald E dX2_toHide_84 (by rfl) ?_ | refine y_aload E dX2_toHide_84 (by rfl) ?_
              refine y_callV E dX2_toHide_86 lk_X2_138 (c_X2_areMistaken hB4 hI4 hS hL hU hO4 hin (u := j) (by omega)) (by rfl) (hst4) rfl (by decide) (by omega) (by omega) rfl (Nat.le_of_ble_eq_true rfl) ?_ (fun _ _ _ h => h.elim)
              rintro _ _ ⟨rfl, hG9⟩
              rw [hG9]
              clear hG9
              refine y_ifd_eq (tgt := 95) E dX2_toHide_89 (by decide) (fun h89 => ?_) (fun h89 => ?_)
              · refine y_goto (tgt := 35) E dX2_toHide_95 (by decide) ?_
                refine y_widen (by omega) (by omega) (ihj (by omega) _ _ hE4 hO4 hit4 (by omega) (fun k k0 k1 => ?_))
                by_cases e : k = j
                · subst e
                  first
                    | exact fun q => h89 q.2.2
                    | (exfalso; omega)
                    | (intro q; have q1 := q.1; have q2 := q.2.1; omega)
                · exact hk k k0 (by omega)
              · refine y_forget hE5 ?_
                first | refine y_ald E dX2_toHide_92 (by rfl) ?_ | refine y_aload E dX2_toHide_92 (by rfl) ?_
                refine y_areturn (r := some _) E F rfl (Or.inl ⟨_, rfl⟩) dX2_toHide_94 (by omega) (by omega) ⟨by rw [show misS w = j from misS_eq (Or.inr ⟨i, by omega, by omega, by omega, ⟨by omega, by omega, h89⟩, hk, hj⟩), twO_s (by omega), Int.toNat_natCast], rfl⟩
    first | refine y_ald_n E dX2_toHide_8 (by rfl) ?_ | refine y_aload_n E dX2_toHide_8 (by rfl) ?_
    refine y_callF E dX2_toHide_9 lk_X2_37_J24 (c_it_has hit (by omega)) (by rfl) (hitc) rfl (by decide) (by omega) (by omega) rfl (Nat.le_of_ble_eq_true rfl) ?_ (fun _ _ _ h => h.elim)
    rintro _ _ ⟨rfl, hG9⟩
    rw [hG9]
    clear hG9
    refine y_ifd_eq (tgt := 101) E dX2_toHide_14 (by decide) (fun h14 => ?_) (fun h14 => ?_)
    · refine y_forget hE ?_
      refine y_null E dX2_toHide_101 ?_
      refine y_areturn (r := none) E F rfl (Or.inl ⟨_, rfl⟩) dX2_toHide_102 (by omega) (by omega) ⟨by rw [show misS w = -1 from misS_eq (Or.inl ⟨rfl, fun x k x0 x1 x2 => hj x k x0 (by omega) x1 x2⟩), twO_n (by omega)], rfl⟩
    · first | refine y_ald_n E dX2_toHide_17 (by rfl) ?_ | refine y_aload_n E dX2_toHide_17 (by rfl) ?_
      refine y_callF E dX2_toHide_18 lk_X2_43_J24 (c_it_next hit (twL_at (by omega))) (by rfl) (hitc) rfl (by decide) (by omega) (by omega) rfl (Nat.le_of_ble_eq_true rfl) ?_ (fun _ _ _ h => h.elim)
      rintro _ _ ⟨rfl, hit2, vv, hG9⟩
      rw [hG9] at hit2 ⊢
      clear hG9
      have hE2 := gExt_w hE (some yT0, vv) h0
      have hO2 := gOK_it hO1 (a := it) (e := vv)
      have hB2 := hB.e hE2
      have hI2 := hI.e hB hE2
      have hst2 := hI2.1
      have hal2 := hI2.2.1
      obtain ⟨fal2, hac2⟩ := hal2.c
      have hiw := isST_t hI2 (t := i) (by omega)
      unfold twX twE at hiw
      refine y_ccast E dX2_toHide_23 q1008 (hiw) rfl (Or.inl rfl) ?_
      first | refine y_ast_n (j := 2) E dX2_toHide_26 rfl (Nat.le_of_ble_eq_true rfl) ?_ | refine y_astore_n (j := 2) E dX2_toHide_26 rfl (Nat.le_of_ble_eq_true rfl) ?_ | refine y_astore_n (j := 2) (r := none) E dX2_toHide_26 rfl (Nat.le_of_ble_eq_true rfl) ?_
      first | refine y_ald_n E dX2_toHide_27 (by rfl) ?_ | refine y_aload_n E dX2_toHide_27 (by rfl) ?_
      refine y_get E dX2_toHide_28 fl_X2_12_X2 (hst2) (by rfl) ?_
      refine y_callV E dX2_toHide_31 lk_X2_33 (c_it_new hB2 hal2) (by rfl) (hac2) rfl (by decide) (by omega) (by omega) rfl (Nat.le_of_ble_eq_true rfl) ?_ (fun _ _ _ h => h.elim)
      rintro _ G3 ⟨it2, vv2, rfl, h02, hit3, hG9⟩
      first | refine y_ast_n (j := 3) E dX2_toHide_34 rfl (Nat.le_of_ble_eq_true rfl) ?_ | refine y_astore_n (j := 3) E dX2_toHide_34 rfl (Nat.le_of_ble_eq_true rfl) ?_ | refine y_astore_n (j := 3) (r := none) E dX2_toHide_34 rfl (Nat.le_of_ble_eq_true rfl) ?_
      refine y_widen (by omega) (by omega) (inner (by omega) _ hE2 hit2 it2 h02 0 G3 _ (by rw [hG9]; exact gExt_n h02) (by rw [hG9]; exact gOK_it hO2) hit3 (by omega) (fun k k0 k1 => by omega))
  first | refine y_ald_n E dX2_toHide_0 (by rfl) ?_ | refine y_aload_n E dX2_toHide_0 (by rfl) ?_
  refine y_get E dX2_toHide_1 fl_X2_12_X2 (hst) (by rfl) ?_
  refine y_callV E dX2_toHide_4 lk_X2_33 (c_it_new hB hal) (by rfl) (hac) rfl (by decide) (by omega) (by omega) rfl (Nat.le_of_ble_eq_true rfl) ?_ (fun _ _ _ h => h.elim)
  rintro _ G1 ⟨it, vv, rfl, h0, hit, hG9⟩
  first | refine y_ast_n (j := 1) E dX2_toHide_7 rfl (Nat.le_of_ble_eq_true rfl) ?_ | refine y_astore_n (j := 1) E dX2_toHide_7 rfl (Nat.le_of_ble_eq_true rfl) ?_ | refine y_astore_n (j := 1) (r := none) E dX2_toHide_7 rfl (Nat.le_of_ble_eq_true rfl) ?_
  exact y_widen (by omega) (by omega) (outer it h0 0 G1 _ _ _ (by rw [hG9]; exact gExt_n h0) (by rw [hG9]; exact gOK_it hO) hit (by omega) (fun x k x0 x1 => by omega))
/-- a refusal; null: none -/
def isRF (G G' : yH) (τ : Nat × Nat) (r : Option Value) (q : Option (Int × Int)) : Prop := match q with
  | none => r = some .null ∧ G' = G
  | some x => ∃ b, r = some (.ref b) ∧ G b = none ∧ G' = gset G b (some τ, rfE x.1 x.2)
theorem c_X2_whyNotDark (τ : Nat × Nat) (hI : isST Γ G st a S w) (hS : SH w) {t : Nat} (ht : (t : Int) < w 10) : Ct_X2_whyNotDark Γ 2 1 2 [.ref a, .ref (sTa S t)] (G) (fun v G' => isRF G G' τ v (whyDark w t)) (noX) := by
  refine y_start (lv0 := [some (.ref a), some (.ref (sTa S t))]) (nm := "whyNotDark") (own := RX2) (by decide +kernel) rfl rfl (by exact Nat.le_of_ble_eq_true rfl) (by rfl) ?_
  intro Z Q E F
  have hn := hS.nt
  have htw := isST_t hI ht
  unfold twX twE at htw
  have hSt := hS.t (t := (t : Int)) (by omega) (by omega)
  first | refine y_ald_n E dX2_whyNotDark_0 (by rfl) ?_ | refine y_aload_n E dX2_whyNotDark_0 (by rfl) ?_
  refine y_getN E dX2_whyNotDark_1 fl_X2_133_X6 (htw) (by rfl) ?_
  refine y_if_eq (tgt := 11) E dX2_whyNotDark_4 (by decide) (by omega) (fun h4 => ?_) (fun h4 => ?_)
  · refine y_new E τ dX2_whyNotDark_11 nw_X2_164 (by omega) (by omega) (fun q11 hq11 => ?_)
    have htw := gs_n (v := (some τ, .inr (0, [.int (iI 0), .int (iI 0)]))) (g_nn htw hq11) htw
    refine y_dup E dX2_whyNotDark_14 rfl ?_
    refine y_iconst E dX2_whyNotDark_15 ?_
    first | refine y_ald_n E dX2_whyNotDark_16 (by rfl) ?_ | refine y_aload_n E dX2_whyNotDark_16 (by rfl) ?_
    refine y_getN E dX2_whyNotDark_17 fl_X2_137_X6 (htw) (by rfl) ?_
    refine y_callI E dX2_whyNotDark_20 lk_X2_166 (c_X4_init (τ := τ) (r := 4) (d := t) (gset_s _ _ _)) (by rfl) (by decide) (by omega) (by omega) rfl (Nat.le_of_ble_eq_true rfl) ?_ (fun _ _ _ h => h.elim)
    rintro _ G2 ⟨rfl, hG9⟩
    rw [gset_gset] at hG9
    refine y_areturn (r := some _) E F rfl (Or.inl ⟨_, rfl⟩) dX2_whyNotDark_23 (by omega) (by omega) (by first
        | (unfold whyDark; rw [if_neg (by omega)]; exact ⟨_, rfl, hq11, hG9⟩)
        | (unfold whyDark; rw [if_pos (by omega)]; exact ⟨rfl, rfl⟩))
  · refine y_null E dX2_whyNotDark_7 ?_
    refine y_goto (tgt := 23) E dX2_whyNotDark_8 (by decide) ?_
    refine y_areturn (r := none) E F rfl (Or.inl ⟨_, rfl⟩) dX2_whyNotDark_23 (by omega) (by omega) (by first
        | (unfold whyDark; rw [if_neg (by omega)]; exact ⟨_, rfl, hq11, hG9⟩)
        | (unfold whyDark; rw [if_pos (by omega)]; exact ⟨rfl, rfl⟩))
end X2c
