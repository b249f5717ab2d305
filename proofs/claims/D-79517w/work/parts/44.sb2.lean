/-! ===== StringBuilder: appending a builder, copying ===== -/
section SB2
variable {Γ : yG}
set_option maxHeartbeats 4000000
theorem i_or01 : ∀ x y : Int, (x = 0 ∨ x = 1) → (y = 0 ∨ y = 1) → ∃ z : Int, (z = 0 ∨ z = 1) ∧ iI x ||| iI y = iI z := by
  intro x y hx hy
  rcases hx with rfl | rfl <;> rcases hy with rfl | rfl
  · exact ⟨0, Or.inl rfl, by decide⟩
  · exact ⟨1, Or.inr rfl, by decide⟩
  · exact ⟨1, Or.inr rfl, by decide⟩
  · exact ⟨1, Or.inr rfl, by decide⟩
theorem c_J5_getCoder {G : yH} {b q : Nat} {t : yT} {ml n : Int} (h : G b = some (t, sbE q ml n)) : Ct_J5_getCoder Γ 1 0 0 [.ref b] G (fun r G' => r = some (.int (iI 0)) ∧ G' = G) noX := by
  unfold sbE at h
  refine y_start (lv0 := [some (.ref b)]) (nm := "getCoder") (own := RJ5) (by decide +kernel) rfl rfl (by first | exact Nat.le_of_ble_eq_true rfl | (simp only [yArgs, va_cat_rf]; simp [Value.category])) (by first | rfl | (simp only [yArgs, va_cat_rf]; simp [Value.category])) ?_
  intro Z Q E F
  refine y_gets E dJ5_getCoder_0 E.zCS q270 (Or.inl rfl) ?_
  refine y_top (v' := .int (iI (b2i true))) rfl ?_
  refine y_ifb_eq (tgt := 13) E dJ5_getCoder_3 (by decide) (fun hb => ?_) (fun hb => ?_)
  · cases hb
  · first | refine y_ald_n E dJ5_getCoder_6 (by rfl) ?_ | refine y_aload_n E dJ5_getCoder_6 (by rfl) ?_
    refine y_get E dJ5_getCoder_7 fl_J5_22_J6 (by assumption) (by rfl) ?_
    refine y_goto (tgt := 14) E dJ5_getCoder_10 (by decide) ?_
    refine y_ireturn E F rfl (by decide) dJ5_getCoder_14 (by omega) (by omega) ⟨rfl, rfl⟩
theorem c_J5_inflate2 {G : yH} {b q b2 q2 : Nat} {t t2 : yT} {ml n ml2 n2 : Int} (h : G b = some (t, sbE q ml n)) (h2 : G b2 = some (t2, sbE q2 ml2 n2)) : Ct_J5_inflateIfNeededFor_2 Γ 2 0 0 [.ref b, .ref b2] G (fun r G' => r = none ∧ G' = G) noX := by
  have h' := h
  have h2' := h2
  unfold sbE at h h2
  refine y_start (lv0 := [some (.ref b), some (.ref b2)]) (nm := "inflateIfNeededFor") (own := RJ5) (by decide +kernel) rfl rfl (by first | exact Nat.le_of_ble_eq_true rfl | (simp only [yArgs, va_cat_rf]; simp [Value.category])) (by first | rfl | (simp only [yArgs, va_cat_rf]; simp [Value.category])) ?_
  intro Z Q E F
  refine y_gets E dJ5_inflateIfNeededFor_2_0 E.zCS q270 (Or.inl rfl) ?_
  refine y_top (v' := .int (iI (b2i true))) rfl ?_
  refine y_ifb_eq (tgt := 21) E dJ5_inflateIfNeededFor_2_3 (by decide) (fun hb => ?_) (fun hb => ?_)
  · cases hb
  · first | refine y_ald_n E dJ5_inflateIfNeededFor_2_6 (by rfl) ?_ | refine y_aload_n E dJ5_inflateIfNeededFor_2_6 (by rfl) ?_
    refine y_get E dJ5_inflateIfNeededFor_2_7 fl_J5_22_J6 (h) (by rfl) ?_
    first | refine y_ald_n E dJ5_inflateIfNeededFor_2_10 (by rfl) ?_ | refine y_aload_n E dJ5_inflateIfNeededFor_2_10 (by rfl) ?_
    refine y_callO E dJ5_inflateIfNeededFor_2_11 lk_J5_70_J6 (c_J5_getCoder h2') (by rfl) (h2) rfl (by decide) (by omega) (by omega) rfl (Nat.le_of_ble_eq_true rfl) ?_ (fun _ _ _ h => h.elim)
    rintro v G1 ⟨rfl, rfl⟩
    refine y_eq (st' := [.int (iI 0), .int (iI 0)]) rfl ?_
    refine y_icmp_eq (tgt := 21) E dJ5_inflateIfNeededFor_2_14 (by decide) (by omega) (by omega) (fun hc => ?_) (fun hc => ?_)
    · refine y_return E F rfl dJ5_inflateIfNeededFor_2_21 (by omega) (by omega) ⟨rfl, rfl⟩
    · exact absurd rfl hc
theorem c_J5_getBytes {G : yH} {b q a cap cap2 n d : Nat} {t t2 : yT} {τ : Nat × Nat} {ml : Int} {f g : Int → Int} (h : G b = some (t, sbE q ml (n : Int))) (hq : G q = some (t2, aI 2 cap f)) (ha : G a = some (some τ, aI 2 cap2 g)) (hf : ∀ i : Int, 0 ≤ f i ∧ f i ≤ 127) (hn : n ≤ cap) (hd : d + n ≤ cap2) (hd2 : cap2 ≤ 60000) (hc : cap ≤ 60000) : Ct_J5_getBytes Γ 2 0 0 [.ref b, .ref a, .int (iI d), .int (iI 0)] G (fun r G' => r = none ∧ G' = gset G a (some τ, aI 2 cap2 (cpI f g 0 d n))) noX := by
  unfold sbE at h
  refine y_start (lv0 := [some (.ref b), some (.ref a), some (.int (iI d)), some (.int (iI 0))]) (nm := "getBytes") (own := RJ5) (by decide +kernel) rfl rfl (by first | exact Nat.le_of_ble_eq_true rfl | (simp only [yArgs, va_cat_rf]; simp [Value.category])) (by first | rfl | (simp only [yArgs, va_cat_rf]; simp [Value.category])) ?_
  intro Z Q E F
  first | refine y_ald_n E dJ5_getBytes_0 (by rfl) ?_ | refine y_aload_n E dJ5_getBytes_0 (by rfl) ?_
  refine y_get E dJ5_getBytes_1 fl_J5_22_J6 (h) (by rfl) ?_
  refine y_iload_n E dJ5_getBytes_4 (by rfl) ?_
  refine y_icmp_ne (tgt := 29) E dJ5_getBytes_5 (by decide) (by omega) (by omega) (fun hb => ?_) (fun hb => ?_)
  · exact absurd rfl hb
  · first | refine y_ald_n E dJ5_getBytes_8 (by rfl) ?_ | refine y_aload_n E dJ5_getBytes_8 (by rfl) ?_
    refine y_get E dJ5_getBytes_9 fl_J5_15_J6 (h) (by rfl) ?_
    refine y_iconst E dJ5_getBytes_12 ?_
    first | refine y_ald_n E dJ5_getBytes_13 (by rfl) ?_ | refine y_aload_n E dJ5_getBytes_13 (by rfl) ?_
    refine y_iload_n E dJ5_getBytes_14 (by rfl) ?_
    refine y_iload_n E dJ5_getBytes_15 (by rfl) ?_
    refine y_ishl E dJ5_getBytes_16 (i_shl0 _) ?_
    first | refine y_ald_n E dJ5_getBytes_17 (by rfl) ?_ | refine y_aload_n E dJ5_getBytes_17 (by rfl) ?_
    refine y_get E dJ5_getBytes_18 fl_J5_79_J6 (h) (by rfl) ?_
    refine y_iload_n E dJ5_getBytes_21 (by rfl) ?_
    refine y_ishl E dJ5_getBytes_22 (i_shl0 _) ?_
    refine y_copyI E dJ5_getBytes_23 ⟨q2043, q634, q633, q138⟩ (by decide) rfl hq ha (by omega) (fun i _ _ => (byteI (hf _)).2.2.1) (by decide) (Nat.le_of_ble_eq_true rfl) ?_
    refine y_goto (tgt := 43) E dJ5_getBytes_26 (by decide) ?_
    refine y_return E F rfl dJ5_getBytes_43 (by omega) (by omega) ⟨rfl, rfl⟩
theorem c_J5_append_5 {G : yH} {τ τ2 : Nat × Nat} {b b2 : Nat} {cs ds : List Int} {m2 : Nat} (H : isSB G τ b cs 0) (H2 : isSB G τ2 b2 ds m2) (hn : cs.length + ds.length ≤ 60) (ht : τ ≠ τ2) : Ct_J5_append_5 Γ 5 1 130 [.ref b, .ref b2] G (fun r G' => r = some (.ref b) ∧ isSB G' τ b (cs ++ ds) 0 ∧ gK (· = τ) G G') noX := by
  have H0 := H
  have H20 := H2
  obtain ⟨q0, cap0, f0, ml0, g1, -⟩ := H
  obtain ⟨p0, cap20, e0, ml20, g2, -⟩ := H2
  have g1' := g1
  unfold sbE at g1'
  refine y_start (lv0 := [some (.ref b), some (.ref b2), none]) (nm := "append") (own := RJ5) (by decide +kernel) rfl rfl (by first | exact Nat.le_of_ble_eq_true rfl | (simp only [yArgs, va_cat_rf]; simp [Value.category])) (by first | rfl | (simp only [yArgs, va_cat_rf]; simp [Value.category])) ?_
  intro Z Q E F
  first | refine y_ald_n E dJ5_append_5_0 (by rfl) ?_ | refine y_aload_n E dJ5_append_5_0 (by rfl) ?_
  refine y_ifnonnull_r (tgt := 9) E dJ5_append_5_1 (by decide) ?_
  first | refine y_ald_n E dJ5_append_5_9 (by rfl) ?_ | refine y_aload_n E dJ5_append_5_9 (by rfl) ?_
  refine y_callO E dJ5_append_5_10 lk_J5_160_J6 (c_J6_length H20) (by rfl) (g2) rfl (by decide) (by omega) (by omega) rfl (Nat.le_of_ble_eq_true rfl) ?_ (fun _ _ _ h => h.elim)
  rintro v G1 ⟨rfl, rfl⟩
  refine y_eq (st' := [.int (iI (ds.length : Int))]) rfl ?_
  refine y_istore_n (j := 2) E dJ5_append_5_13 rfl (Nat.le_of_ble_eq_true rfl) ?_
  first | refine y_ald_n E dJ5_append_5_14 (by rfl) ?_ | refine y_aload_n E dJ5_append_5_14 (by rfl) ?_
  first | refine y_ald_n E dJ5_append_5_15 (by rfl) ?_ | refine y_aload_n E dJ5_append_5_15 (by rfl) ?_
  refine y_get E dJ5_append_5_16 fl_J5_79_J6 (g1') (by rfl) ?_
  refine y_iload_n E dJ5_append_5_19 (by rfl) ?_
  refine y_iadd E dJ5_append_5_20 ?_
  refine y_top (v' := .int (iI ((cs.length + ds.length : Nat) : Int))) rfl ?_
  refine y_callPV E dJ5_append_5_21 lp_J5_100 (c_J5_ensure (m := cs.length + ds.length) H0 (by omega)) (by rfl) (g1') rfl (by decide) (by omega) (by omega) rfl (Nat.le_of_ble_eq_true rfl) ?_ (fun _ _ _ h => h.elim)
  rintro v G1 ⟨rfl, ⟨q, cap, f, ml, h, hq, h3, h4, h5, h6, h7, h8⟩, k1⟩
  obtain ⟨p, cap2, e, ml2, h', hp, i3, i4, i5, i6, i7, i8⟩ := H20.kk k1 (fun z => ht z.symm)
  have hh := h
  have hh' := h'
  unfold sbE at h h'
  have hbq : b ≠ q := g_ne h hq (by simp [aI])
  first | refine y_ald_n E dJ5_append_5_24 (by rfl) ?_ | refine y_aload_n E dJ5_append_5_24 (by rfl) ?_
  first | refine y_ald_n E dJ5_append_5_25 (by rfl) ?_ | refine y_aload_n E dJ5_append_5_25 (by rfl) ?_
  refine y_callPV E dJ5_append_5_26 lp_J5_215 (c_J5_inflate2 hh hh') (by rfl) (h) rfl (by decide) (by omega) (by omega) rfl (Nat.le_of_ble_eq_true rfl) ?_ (fun _ _ _ h => h.elim)
  rintro v G2 ⟨rfl, rfl⟩
  first | refine y_ald_n E dJ5_append_5_29 (by rfl) ?_ | refine y_aload_n E dJ5_append_5_29 (by rfl) ?_
  first | refine y_ald_n E dJ5_append_5_30 (by rfl) ?_ | refine y_aload_n E dJ5_append_5_30 (by rfl) ?_
  refine y_get E dJ5_append_5_31 fl_J5_15_J6 (h) (by rfl) ?_
  first | refine y_ald_n E dJ5_append_5_34 (by rfl) ?_ | refine y_aload_n E dJ5_append_5_34 (by rfl) ?_
  refine y_get E dJ5_append_5_35 fl_J5_79_J6 (h) (by rfl) ?_
  first | refine y_ald_n E dJ5_append_5_38 (by rfl) ?_ | refine y_aload_n E dJ5_append_5_38 (by rfl) ?_
  refine y_get E dJ5_append_5_39 fl_J5_22_J6 (h) (by rfl) ?_
  refine y_callO E dJ5_append_5_42 lk_J5_219_J6 (c_J5_getBytes (n := ds.length) (d := cs.length) hh' hp hq i7 i3 (by omega) (by omega) (by omega)) (by rfl) (h') rfl (by decide) (by omega) (by omega) rfl (Nat.le_of_ble_eq_true rfl) ?_ (fun _ _ _ h => h.elim)
  rintro v G2 ⟨rfl, rfl⟩
  have hb1 := gs_n (v := (some τ, aI 2 cap (cpI e f 0 cs.length ds.length))) hbq h
  have hb2q : b2 ≠ q := g_ne h' hq (by simp [aI])
  have hbb : b ≠ b2 := g_ne h h' (fun z => ht (Option.some.inj (congrArg Prod.fst z)))
  first | refine y_ald_n E dJ5_append_5_45 (by rfl) ?_ | refine y_aload_n E dJ5_append_5_45 (by rfl) ?_
  refine y_dup E dJ5_append_5_46 rfl ?_
  refine y_get E dJ5_append_5_47 fl_J5_79_J6 (hb1) (by rfl) ?_
  refine y_iload_n E dJ5_append_5_50 (by rfl) ?_
  refine y_iadd E dJ5_append_5_51 ?_
  refine y_put E dJ5_append_5_52 fl_J5_79_J6 fw_J6_3 rfl (by rfl) (hb1) (Nat.le_of_ble_eq_true rfl) ?_
  obtain ⟨z, hz, ho⟩ := i_or01 ml ml2 h6 i6
  first | refine y_ald_n E dJ5_append_5_55 (by rfl) ?_ | refine y_aload_n E dJ5_append_5_55 (by rfl) ?_
  refine y_dup E dJ5_append_5_56 rfl ?_
  refine y_get E dJ5_append_5_57 fl_J5_73_J6 (gset_s _ _ _) (by rfl) ?_
  first | refine y_ald_n E dJ5_append_5_60 (by rfl) ?_ | refine y_aload_n E dJ5_append_5_60 (by rfl) ?_
  refine y_get E dJ5_append_5_61 fl_J5_73_J6 (gs_n hbb.symm (gs_n hb2q h')) (by rfl) ?_
  refine y_ior E dJ5_append_5_64 ho ?_
  refine y_put E dJ5_append_5_65 fl_J5_73_J6 fw_J6_2 (nar_z hz) (fit_z hz) (gset_s _ _ _) (Nat.le_of_ble_eq_true rfl) ?_
  first | refine y_ald_n E dJ5_append_5_68 (by rfl) ?_ | refine y_aload_n E dJ5_append_5_68 (by rfl) ?_
  refine y_heap (gset_gset _ _ _ _) ?_
  refine y_areturn (r := some b) E F rfl (Or.inl ⟨_, rfl⟩) dJ5_append_5_69 (by omega) (by omega) ⟨rfl, ⟨q, cap, _, z, by rw [gset_s]; simp [sbE], gs_n hbq.symm (gset_s _ _ _), by simp; omega, by omega, h5, hz, fun i => ?_, fun i hi => ?_⟩, gK_t k1 (gK_t (gK_w _ hq rfl) (gK_w _ hb1 rfl))⟩
  · unfold cpI
    split
    · exact i7 _
    · exact h7 i
  · by_cases hi2 : i < cs.length
    · rw [List.getElem?_append_left hi2, h8 i hi2]
      unfold cpI
      rw [if_neg (by omega)]
    · rw [List.length_append] at hi
      rw [List.getElem?_append_right (by omega), i8 (i - cs.length) (by omega)]
      unfold cpI
      rw [if_pos (by omega)]
      congr 2
      omega
theorem c_J5_append_4 {G : yH} {τ τ2 : Nat × Nat} {b b2 : Nat} {cs ds : List Int} {m2 : Nat} (H : isSB G τ b cs 0) (H2 : isSB G τ2 b2 ds m2) (hn : cs.length + ds.length ≤ 60) (ht : τ ≠ τ2) : Ct_J5_append_4 Γ 6 1 130 [.ref b, .ref b2] G (fun r G' => r = some (.ref b) ∧ isSB G' τ b (cs ++ ds) 0 ∧ gK (· = τ) G G') noX := by
  have H0 := H
  have H20 := H2
  obtain ⟨q0, cap0, f0, ml0, g1, -⟩ := H
  obtain ⟨p0, cap20, e0, ml20, g2, -⟩ := H2
  refine y_start (lv0 := [some (.ref b), some (.ref b2)]) (nm := "append") (own := RJ5) (by decide +kernel) rfl rfl (by first | exact Nat.le_of_ble_eq_true rfl | (simp only [yArgs, va_cat_rf]; simp [Value.category])) (by first | rfl | (simp only [yArgs, va_cat_rf]; simp [Value.category])) ?_
  intro Z Q E F
  first | refine y_ald_n E dJ5_append_4_0 (by rfl) ?_ | refine y_aload_n E dJ5_append_4_0 (by rfl) ?_
  refine y_ifnonnull_r (tgt := 9) E dJ5_append_4_1 (by decide) ?_
  first | refine y_ald_n E dJ5_append_4_9 (by rfl) ?_ | refine y_aload_n E dJ5_append_4_9 (by rfl) ?_
  refine y_instN E dJ5_append_4_10 q2011 g2 rfl (by decide +kernel) ?_
  refine y_top (v' := .int (iI (b2i false))) rfl ?_
  refine y_ifb_eq (tgt := 25) E dJ5_append_4_13 (by decide) (fun hb => ?_) (fun hb => ?_)
  · first | refine y_ald_n E dJ5_append_4_25 (by rfl) ?_ | refine y_aload_n E dJ5_append_4_25 (by rfl) ?_
    refine y_inst E dJ5_append_4_26 q2005 g2 rfl (Or.inr q3090) ?_
    refine y_top (v' := .int (iI (b2i true))) rfl ?_
    refine y_ifb_eq (tgt := 41) E dJ5_append_4_29 (by decide) (fun hb2 => ?_) (fun hb2 => ?_)
    · cases hb2
    · first | refine y_ald_n E dJ5_append_4_32 (by rfl) ?_ | refine y_aload_n E dJ5_append_4_32 (by rfl) ?_
      first | refine y_ald_n E dJ5_append_4_33 (by rfl) ?_ | refine y_aload_n E dJ5_append_4_33 (by rfl) ?_
      refine y_ccast E dJ5_append_4_34 q2005 g2 rfl (Or.inr q3090) ?_
      refine y_callO E dJ5_append_4_37 lk_J5_212_J6 (c_J5_append_5 H0 H20 hn ht) (by rfl) (g1) rfl (by decide) (by omega) (by omega) rfl (Nat.le_of_ble_eq_true rfl) ?_ (fun _ _ _ h => h.elim)
      rintro v G1 ⟨rfl, a1, a2⟩
      refine y_areturn (r := some b) E F rfl (Or.inl ⟨_, rfl⟩) dJ5_append_4_40 (by omega) (by omega) ⟨rfl, a1, a2⟩
  · cases hb
theorem c_J6_append_5 {G : yH} {τ τ2 : Nat × Nat} {b b2 : Nat} {cs ds : List Int} {m2 : Nat} (H : isSB G τ b cs 0) (H2 : isSB G τ2 b2 ds m2) (hn : cs.length + ds.length ≤ 60) (ht : τ ≠ τ2) : Ct_J6_append_5 Γ 7 1 130 [.ref b, .ref b2] G (fun r G' => r = some (.ref b) ∧ isSB G' τ b (cs ++ ds) 0 ∧ gK (· = τ) G G') noX := by
  have H0 := H
  obtain ⟨q0, cap0, f0, ml0, g1, -⟩ := H
  refine y_start (lv0 := [some (.ref b), some (.ref b2)]) (nm := "append") (own := RJ6) (by decide +kernel) rfl rfl (by first | exact Nat.le_of_ble_eq_true rfl | (simp only [yArgs, va_cat_rf]; simp [Value.category])) (by first | rfl | (simp only [yArgs, va_cat_rf]; simp [Value.category])) ?_
  intro Z Q E F
  first | refine y_ald_n E dJ6_append_5_0 (by rfl) ?_ | refine y_aload_n E dJ6_append_5_0 (by rfl) ?_
  first | refine y_ald_n E dJ6_append_5_1 (by rfl) ?_ | refine y_aload_n E dJ6_append_5_1 (by rfl) ?_
  refine y_callSU E dJ6_append_5_2 lk_J6_35_su (c_J5_append_4 H0 H2 hn ht) (by rfl) (g1) rfl (by decide) (by omega) (by omega) rfl (Nat.le_of_ble_eq_true rfl) ?_ (fun _ _ _ h => h.elim)
  rintro v G1 ⟨rfl, a1, a2⟩
  refine y_eq (st' := [.ref b]) rfl ?_
  refine y_pop E dJ6_append_5_5 rfl ?_
  first | refine y_ald_n E dJ6_append_5_6 (by rfl) ?_ | refine y_aload_n E dJ6_append_5_6 (by rfl) ?_
  refine y_areturn (r := some b) E F rfl (Or.inl ⟨_, rfl⟩) dJ6_append_5_7 (by omega) (by omega) ⟨rfl, a1, a2⟩
theorem c_J6_append_4 {G : yH} {τ τ2 : Nat × Nat} {b b2 : Nat} {cs ds : List Int} {m2 : Nat} (H : isSB G τ b cs 0) (H2 : isSB G τ2 b2 ds m2) (hn : cs.length + ds.length ≤ 60) (ht : τ ≠ τ2) : Ct_J6_append_4 Γ 8 1 130 [.ref b, .ref b2] G (fun r G' => r = some (.ref b) ∧ isSB G' τ b (cs ++ ds) 0 ∧ gK (· = τ) G G') noX := by
  have H0 := H
  obtain ⟨q0, cap0, f0, ml0, g1, -⟩ := H
  refine y_start (lv0 := [some (.ref b), some (.ref b2)]) (nm := "append") (own := RJ6) (by decide +kernel) rfl rfl (by first | exact Nat.le_of_ble_eq_true rfl | (simp only [yArgs, va_cat_rf]; simp [Value.category])) (by first | rfl | (simp only [yArgs, va_cat_rf]; simp [Value.category])) ?_
  intro Z Q E F
  first | refine y_ald_n E dJ6_append_4_0 (by rfl) ?_ | refine y_aload_n E dJ6_append_4_0 (by rfl) ?_
  first | refine y_ald_n E dJ6_append_4_1 (by rfl) ?_ | refine y_aload_n E dJ6_append_4_1 (by rfl) ?_
  refine y_callV E dJ6_append_4_2 lk_J6_299 (c_J6_append_5 H0 H2 hn ht) (by rfl) (g1) rfl (by decide) (by omega) (by omega) rfl (Nat.le_of_ble_eq_true rfl) ?_ (fun _ _ _ h => h.elim)
  rintro v G1 ⟨rfl, a1, a2⟩
  refine y_areturn (r := some b) E F rfl (Or.inl ⟨_, rfl⟩) dJ6_append_4_5 (by omega) (by omega) ⟨rfl, a1, a2⟩
end SB2
