/-! ===== List.of with three elements ===== -/
def f3 (x0 x1 x2 : Nat) : Nat → Option Nat := fun i => if i = 0 then some x0 else if i = 1 then some x1 else if i = 2 then some x2 else none
/-- an immutable list of three -/
def isLN (G : yH) (τ : Nat × Nat) (a : Nat) (x0 x1 x2 : Nat) : Prop := ∃ q f, G a = some (some τ, .inr (17, [.ref q, .int (iI 0)])) ∧ G q = some (some τ, aR 5 3 f) ∧ f 0 = some x0 ∧ f 1 = some x1 ∧ f 2 = some x2
theorem isLN.kk {P : Nat × Nat → Prop} {G G' : yH} {τ : Nat × Nat} {a x0 x1 x2 : Nat} (H : isLN G τ a x0 x1 x2) (hk : gK P G G') (hP : ¬ P τ) : isLN G' τ a x0 x1 x2 := by
  obtain ⟨q, f, h1, h2, h3⟩ := H
  exact ⟨q, f, hk.at h1 hP, hk.at h2 hP, h3⟩
section LN
variable {Γ : yG}
set_option maxHeartbeats 4000000
theorem c_J12_requireNonNull {G : yH} {a : Nat} : Ct_J12_requireNonNull Γ 1 0 0 [.ref a] G (fun r G' => r = some (.ref a) ∧ G' = G) noX := by
  refine y_start (lv0 := [some (.ref a)]) (nm := "requireNonNull") (own := RJ12) (by decide +kernel) rfl rfl (by first | exact Nat.le_of_ble_eq_true rfl | (simp only [yArgs, va_cat_rf]; simp [Value.category])) (by first | rfl | (simp only [yArgs, va_cat_rf]; simp [Value.category])) ?_
  intro Z Q E F
  first | refine y_ald_n E dJ12_requireNonNull_0 (by rfl) ?_ | refine y_aload_n E dJ12_requireNonNull_0 (by rfl) ?_
  refine y_ifnonnull_r (tgt := 12) E dJ12_requireNonNull_1 (by decide) ?_
  first | refine y_ald_n E dJ12_requireNonNull_12 (by rfl) ?_ | refine y_aload_n E dJ12_requireNonNull_12 (by rfl) ?_
  refine y_areturn (r := some a) E F rfl (Or.inl ⟨_, rfl⟩) dJ12_requireNonNull_13 (by omega) (by omega) ⟨rfl, rfl⟩
theorem c_J13_init {G : yH} {a : Nat} : Ct_J13_init Γ 3 0 0 [.ref a] G (fun r G' => r = none ∧ G' = G) noX := by
  refine y_start (lv0 := [some (.ref a)]) (nm := "<init>") (own := RJ13) (by decide +kernel) rfl rfl (by first | exact Nat.le_of_ble_eq_true rfl | (simp only [yArgs, va_cat_rf]; simp [Value.category])) (by first | rfl | (simp only [yArgs, va_cat_rf]; simp [Value.category])) ?_
  intro Z Q E F
  first | refine y_ald_n E dJ13_init_0 (by rfl) ?_ | refine y_aload_n E dJ13_init_0 (by rfl) ?_
  refine y_callI E dJ13_init_1 lk_J13_1 (c_J0_init (G := G) (a := a)) (by rfl) (by decide) (by omega) (by omega) rfl (Nat.le_of_ble_eq_true rfl) ?_ (fun _ _ _ h => h.elim)
  rintro v G' ⟨rfl, rfl⟩
  refine y_return E F rfl dJ13_init_4 (by omega) (by omega) ⟨rfl, rfl⟩
theorem c_J14_init {G : yH} {a : Nat} : Ct_J14_init Γ 4 0 0 [.ref a] G (fun r G' => r = none ∧ G' = G) noX := by
  refine y_start (lv0 := [some (.ref a)]) (nm := "<init>") (own := RJ14) (by decide +kernel) rfl rfl (by first | exact Nat.le_of_ble_eq_true rfl | (simp only [yArgs, va_cat_rf]; simp [Value.category])) (by first | rfl | (simp only [yArgs, va_cat_rf]; simp [Value.category])) ?_
  intro Z Q E F
  first | refine y_ald_n E dJ14_init_0 (by rfl) ?_ | refine y_aload_n E dJ14_init_0 (by rfl) ?_
  refine y_callI E dJ14_init_1 lk_J14_1 (c_J13_init (G := G) (a := a)) (by rfl) (by decide) (by omega) (by omega) rfl (Nat.le_of_ble_eq_true rfl) ?_ (fun _ _ _ h => h.elim)
  rintro v G' ⟨rfl, rfl⟩
  refine y_return E F rfl dJ14_init_4 (by omega) (by omega) ⟨rfl, rfl⟩
theorem c_J16_init {G : yH} {a q : Nat} {τ : Nat × Nat} (h : G a = some (some τ, .inr (17, [.null, .int (iI 0)]))) : Ct_J16_init Γ 5 0 0 [.ref a, .ref q, .int (iI 0)] G (fun r G' => r = none ∧ G' = gset G a (some τ, .inr (17, [.ref q, .int (iI 0)]))) noX := by
  refine y_start (lv0 := [some (.ref a), some (.ref q), some (.int (iI 0))]) (nm := "<init>") (own := RJ16) (by decide +kernel) rfl rfl (by first | exact Nat.le_of_ble_eq_true rfl | (simp only [yArgs, va_cat_rf]; simp [Value.category])) (by first | rfl | (simp only [yArgs, va_cat_rf]; simp [Value.category])) ?_
  intro Z Q E F
  first | refine y_ald_n E dJ16_init_0 (by rfl) ?_ | refine y_aload_n E dJ16_init_0 (by rfl) ?_
  refine y_callI E dJ16_init_1 lk_J16_1 (c_J14_init (G := G) (a := a)) (by rfl) (by decide) (by omega) (by omega) rfl (Nat.le_of_ble_eq_true rfl) ?_ (fun _ _ _ h => h.elim)
  rintro v G' ⟨rfl, rfl⟩
  first | refine y_ald_n E dJ16_init_4 (by rfl) ?_ | refine y_aload_n E dJ16_init_4 (by rfl) ?_
  first | refine y_ald_n E dJ16_init_5 (by rfl) ?_ | refine y_aload_n E dJ16_init_5 (by rfl) ?_
  refine y_putF E dJ16_init_6 fl_J16_7_J16 fw_J16_0 (fun q h => by cases h; rfl) (by first | rfl | exact nar_r _ _) (by first | rfl | exact fit_r _ _) (h) (Nat.le_of_ble_eq_true rfl) ?_
  first | refine y_ald_n E dJ16_init_9 (by rfl) ?_ | refine y_aload_n E dJ16_init_9 (by rfl) ?_
  refine y_iload_n E dJ16_init_10 (by rfl) ?_
  refine y_putF E dJ16_init_11 fl_J16_13_J16 fw_J16_1 (fun q h => by cases h; rfl) (nar_z (Or.inl rfl)) (fit_z (Or.inl rfl)) (gset_s _ _ _) (Nat.le_of_ble_eq_true rfl) ?_
  refine y_heap (gset_gset _ _ _ _) ?_
  refine y_return E F rfl dJ16_init_14 (by omega) (by omega) ⟨rfl, rfl⟩
theorem c_J11_list {G : yH} {q x0 x1 x2 : Nat} {τ : Nat × Nat} {f : Nat → Option Nat} (h : G q = some (some τ, aR 5 3 f)) (h0 : f 0 = some x0) (h1 : f 1 = some x1) (h2 : f 2 = some x2) : Ct_J11_listFromTrustedArray Γ 6 1 2 [.ref q] G (fun r G' => (∃ a, r = some (.ref a) ∧ isLN G' τ a x0 x1 x2) ∧ gK (· = τ) G G') noX := by
  refine y_start (lv0 := [some (.ref q), none, none, none, none]) (nm := "listFromTrustedArray") (own := RJ11) (by decide +kernel) rfl rfl (by first | exact Nat.le_of_ble_eq_true rfl | (simp only [yArgs, va_cat_rf]; simp [Value.category])) (by first | rfl | (simp only [yArgs, va_cat_rf]; simp [Value.category])) ?_
  intro Z Q E F
  refine y_gets E dJ11_listFromTrustedArray_0 E.zIA q310 (Or.inl rfl) ?_
  refine y_top (v' := .int (iI (b2i true))) rfl ?_
  refine y_ifb_ne (tgt := 23) E dJ11_listFromTrustedArray_3 (by decide) (fun hb => ?_) (fun hb => ?_)
  · first | refine y_ald_n E dJ11_listFromTrustedArray_23 (by rfl) ?_ | refine y_aload_n E dJ11_listFromTrustedArray_23 (by rfl) ?_
    first | refine y_ast_n (j := 1) E dJ11_listFromTrustedArray_24 rfl (Nat.le_of_ble_eq_true rfl) ?_ | refine y_astore_n (j := 1) E dJ11_listFromTrustedArray_24 rfl (Nat.le_of_ble_eq_true rfl) ?_ | refine y_astore_n (j := 1) (r := none) E dJ11_listFromTrustedArray_24 rfl (Nat.le_of_ble_eq_true rfl) ?_
    first | refine y_ald_n E dJ11_listFromTrustedArray_25 (by rfl) ?_ | refine y_aload_n E dJ11_listFromTrustedArray_25 (by rfl) ?_
    first | refine y_alenI E dJ11_listFromTrustedArray_26 (by assumption) (by decide) ?_ | refine y_alenR E dJ11_listFromTrustedArray_26 (by assumption) (by decide) ?_ | refine y_alenL E dJ11_listFromTrustedArray_26 (by assumption) ?_
    refine y_istore_n (j := 2) E dJ11_listFromTrustedArray_27 rfl (Nat.le_of_ble_eq_true rfl) ?_
    refine y_iconst E dJ11_listFromTrustedArray_28 ?_
    refine y_istore_n (j := 3) E dJ11_listFromTrustedArray_29 rfl (Nat.le_of_ble_eq_true rfl) ?_
    have step : ∀ i x : Nat, i < 3 → f i = some x → ∀ (l4 : Option Value), Y Γ Z 0 0 Q G 30 [some (.ref q), some (.ref q), some (.int (iI 3)), some (.int (iI ((i + 1 : Nat) : Int))), some (.ref x)] [] → Y Γ Z 0 0 Q G 30 [some (.ref q), some (.ref q), some (.int (iI 3)), some (.int (iI i)), l4] [] := by
      intro i x hi hx l4 K
      refine y_iload_n E dJ11_listFromTrustedArray_30 (by rfl) ?_
      refine y_iload_n E dJ11_listFromTrustedArray_31 (by rfl) ?_
      refine y_icmp_ge (tgt := 52) E dJ11_listFromTrustedArray_32 (by decide) (by omega) (by omega) (fun hc => ?_) (fun hc => ?_)
      · exfalso
        omega
      · first | refine y_ald_n E dJ11_listFromTrustedArray_35 (by rfl) ?_ | refine y_aload_n E dJ11_listFromTrustedArray_35 (by rfl) ?_
        refine y_iload_n E dJ11_listFromTrustedArray_36 (by rfl) ?_
        refine y_aald E 5 rfl (by decide) dJ11_listFromTrustedArray_37 (by assumption) (by omega) ?_
        refine y_top (v' := .ref x) (by rw [show f ((i : Int).toNat) = some x from hx]; rfl) ?_
        first | refine y_ast E dJ11_listFromTrustedArray_38 (Nat.le_of_ble_eq_true rfl) ?_ | refine y_astore E dJ11_listFromTrustedArray_38 (Nat.le_of_ble_eq_true rfl) ?_ | refine y_astore (r := none) E dJ11_listFromTrustedArray_38 (Nat.le_of_ble_eq_true rfl) ?_
        first | refine y_ald E dJ11_listFromTrustedArray_40 (by rfl) ?_ | refine y_aload E dJ11_listFromTrustedArray_40 (by rfl) ?_
        refine y_callS E dJ11_listFromTrustedArray_42 lk_J11_37 (c_J12_requireNonNull (G := G) (a := x)) (by rfl) (by decide) (by omega) (by omega) rfl (Nat.le_of_ble_eq_true rfl) ?_ (fun _ _ _ h => h.elim)
        rintro v G' ⟨rfl, rfl⟩
        refine y_eq (st' := [.ref x]) rfl ?_
        refine y_pop E dJ11_listFromTrustedArray_45 rfl ?_
        refine y_iinc E dJ11_listFromTrustedArray_46 (by rfl) ?_
        refine y_goto (tgt := 30) E dJ11_listFromTrustedArray_49 (by decide) ?_
        refine y_lv ?_ K
        rfl
    refine y_lv (lv' := [some (.ref q), some (.ref q), some (.int (iI 3)), some (.int (iI ((0 : Nat) : Int))), none]) rfl ?_
    refine step 0 x0 (by omega) h0 _ (step 1 x1 (by omega) h1 _ (step 2 x2 (by omega) h2 _ ?_))
    refine y_iload_n E dJ11_listFromTrustedArray_30 (by rfl) ?_
    refine y_iload_n E dJ11_listFromTrustedArray_31 (by rfl) ?_
    refine y_icmp_ge (tgt := 52) E dJ11_listFromTrustedArray_32 (by decide) (by omega) (by omega) (fun hc => ?_) (fun hc => ?_)
    · first | refine y_ald_n E dJ11_listFromTrustedArray_52 (by rfl) ?_ | refine y_aload_n E dJ11_listFromTrustedArray_52 (by rfl) ?_
      first | refine y_alenI E dJ11_listFromTrustedArray_53 (by assumption) (by decide) ?_ | refine y_alenR E dJ11_listFromTrustedArray_53 (by assumption) (by decide) ?_ | refine y_alenL E dJ11_listFromTrustedArray_53 (by assumption) ?_
      refine y_tsOut (x := 3) (tgt := 115) E dJ11_listFromTrustedArray_54 (by omega) (by omega) (by decide) ?_
      refine y_new E τ dJ11_listFromTrustedArray_115 nw_J11_12 (by omega) (by omega) (fun a ha => ?_)
      have haq : q ≠ a := g_nn h ha
      have h3 := gset_s G a (some τ, .inr (17, [.null, .int (iI 0)]))
      refine y_dup E dJ11_listFromTrustedArray_118 rfl ?_
      first | refine y_ald_n E dJ11_listFromTrustedArray_119 (by rfl) ?_ | refine y_aload_n E dJ11_listFromTrustedArray_119 (by rfl) ?_
      refine y_iconst E dJ11_listFromTrustedArray_120 ?_
      refine y_callIN E dJ11_listFromTrustedArray_121 lk_J11_43 (c_J16_init (a := a) (q := q) (τ := τ) h3) (by rfl) (by decide) (by omega) (by omega) rfl (Nat.le_of_ble_eq_true rfl) ?_ (fun _ _ _ h => h.elim)
      rintro v G' ⟨rfl, rfl⟩
      refine y_areturn (r := some a) E F rfl (Or.inl ⟨_, rfl⟩) dJ11_listFromTrustedArray_124 (by omega) (by omega) ⟨⟨a, rfl, q, f, gset_s _ _ _, gs_n haq (gs_n haq h), h0, h1, h2⟩, gK_t (gK_n _ ha) (gK_w _ h3 rfl)⟩
    · exfalso
      omega
  · cases hb
theorem c_J10_of {G : yH} {x0 x1 x2 : Nat} (τ : Nat × Nat) (o0 : okR G "java/lang/Object" (some x0)) (o1 : okR G "java/lang/Object" (some x1)) (o2 : okR G "java/lang/Object" (some x2)) : Ct_J10_of Γ 7 2 5 [.ref x0, .ref x1, .ref x2] G (fun r G' => (∃ a, r = some (.ref a) ∧ isLN G' τ a x0 x1 x2) ∧ gK (· = τ) G G') noX := by
  refine y_start (lv0 := [some (.ref x0), some (.ref x1), some (.ref x2)]) (nm := "of") (own := RJ10) (by decide +kernel) rfl rfl (by first | exact Nat.le_of_ble_eq_true rfl | (simp only [yArgs, va_cat_rf]; simp [Value.category])) (by first | rfl | (simp only [yArgs, va_cat_rf]; simp [Value.category])) ?_
  intro Z Q E F
  refine y_iconst E dJ10_of_0 ?_
  refine y_newR E 5 τ rfl (by decide) q305 (by decide +kernel) dJ10_of_1 (by omega) (by omega) (by omega) (fun q hq => ?_)
  have hq1 := gset_s G q (some τ, aR 5 3 (fun _ => none))
  have ok : ∀ (v : yT × yE) (x : Nat), okR G "java/lang/Object" (some x) → okR (gset G q v) "java/lang/Object" (some x) := by
    intro v x hx z hz
    obtain ⟨t, ci, fs, qq, g0, g1⟩ := hx z hz
    exact ⟨t, ci, fs, qq, gs_n (g_nn g0 hq) g0, g1⟩
  refine y_dup E dJ10_of_4 rfl ?_
  refine y_iconst E dJ10_of_5 ?_
  first | refine y_ald_n E dJ10_of_6 (by rfl) ?_ | refine y_aload_n E dJ10_of_6 (by rfl) ?_
  refine y_aast (r := some x0) E 5 rfl (by decide) dJ10_of_7 hq1 (by omega) (ok _ _ o0) ?_
  refine y_heap (gset_gset _ _ _ _) ?_
  refine y_dup E dJ10_of_8 rfl ?_
  refine y_iconst E dJ10_of_9 ?_
  first | refine y_ald_n E dJ10_of_10 (by rfl) ?_ | refine y_aload_n E dJ10_of_10 (by rfl) ?_
  refine y_aast (r := some x1) E 5 rfl (by decide) dJ10_of_11 (gset_s _ _ _) (by omega) (ok _ _ o1) ?_
  refine y_heap (gset_gset _ _ _ _) ?_
  refine y_dup E dJ10_of_12 rfl ?_
  refine y_iconst E dJ10_of_13 ?_
  first | refine y_ald_n E dJ10_of_14 (by rfl) ?_ | refine y_aload_n E dJ10_of_14 (by rfl) ?_
  refine y_aast (r := some x2) E 5 rfl (by decide) dJ10_of_15 (gset_s _ _ _) (by omega) (ok _ _ o2) ?_
  refine y_heap (gset_gset _ _ _ _) ?_
  refine y_callS E dJ10_of_16 lk_J10_105 (c_J11_list (q := q) (x0 := x0) (x1 := x1) (x2 := x2) (τ := τ) (gset_s _ _ _) rfl rfl rfl) (by rfl) (by decide) (by omega) (by omega) rfl (Nat.le_of_ble_eq_true rfl) ?_ (fun _ _ _ h => h.elim)
  rintro v G' ⟨⟨a, rfl, ha⟩, hk⟩
  refine y_areturn (r := some a) E F rfl (Or.inl ⟨_, rfl⟩) dJ10_of_19 (by omega) (by omega) ⟨⟨a, rfl, ha⟩, gK_t (gK_n _ hq) hk⟩
theorem c_J16_get {G : yH} {τ : Nat × Nat} {a x0 x1 x2 : Nat} {i : Nat} (H : isLN G τ a x0 x1 x2) (hi : i < 3) : Ct_J16_get Γ 1 0 0 [.ref a, .int (iI i)] G (fun r G' => r = some (va_rf (f3 x0 x1 x2 i)) ∧ G' = G) noX := by
  obtain ⟨q, f, h1, h2, e0, e1, e2⟩ := H
  have hf : f i = f3 x0 x1 x2 i := by
    rcases (show i = 0 ∨ i = 1 ∨ i = 2 by omega) with rfl | rfl | rfl
    · exact e0
    · exact e1
    · exact e2
  refine y_start (lv0 := [some (.ref a), some (.int (iI i))]) (nm := "get") (own := RJ16) (by decide +kernel) rfl rfl (by first | exact Nat.le_of_ble_eq_true rfl | (simp only [yArgs, va_cat_rf]; simp [Value.category])) (by first | rfl | (simp only [yArgs, va_cat_rf]; simp [Value.category])) ?_
  intro Z Q E F
  first | refine y_ald_n E dJ16_get_0 (by rfl) ?_ | refine y_aload_n E dJ16_get_0 (by rfl) ?_
  refine y_get E dJ16_get_1 fl_J16_7_J16 (by assumption) (by rfl) ?_
  refine y_iload_n E dJ16_get_4 (by rfl) ?_
  refine y_aald E 5 rfl (by decide) dJ16_get_5 (by assumption) (by omega) ?_
  refine y_top (v' := va_rf (f3 x0 x1 x2 i)) (by rw [← hf]; rfl) ?_
  refine y_areturn (r := f3 x0 x1 x2 i) E F rfl (Or.inl ⟨_, rfl⟩) dJ16_get_6 (by omega) (by omega) ⟨rfl, rfl⟩
theorem c_J9_equals {G : yH} {a b : Nat} : Ct_J9_equals Γ 1 0 0 [.ref a, .ref b] G (fun r G' => r = some (.int (iI (b2i (decide (a = b))))) ∧ G' = G) noX := by
  refine y_start (lv0 := [some (.ref a), some (.ref b)]) (nm := "equals") (own := RJ9) (by decide +kernel) rfl rfl (by first | exact Nat.le_of_ble_eq_true rfl | (simp only [yArgs, va_cat_rf]; simp [Value.category])) (by first | rfl | (simp only [yArgs, va_cat_rf]; simp [Value.category])) ?_
  intro Z Q E F
  first | refine y_ald_n E dJ9_equals_0 (by rfl) ?_ | refine y_aload_n E dJ9_equals_0 (by rfl) ?_
  first | refine y_ald_n E dJ9_equals_1 (by rfl) ?_ | refine y_aload_n E dJ9_equals_1 (by rfl) ?_
  refine y_eq (st' := [va_rf (some b), va_rf (some a)]) rfl ?_
  refine y_acmp_ne  (tgt := 9) E dJ9_equals_2 (by decide) (fun h2 => ?_) (fun h2 => ?_)
  · refine y_iconst E dJ9_equals_9 ?_
    refine y_top (v' := .int (iI (b2i (decide (a = b))))) (by rw [decide_eq_false (fun e => h2 (by rw [e]))]; rfl) ?_
    refine y_ireturn E F rfl (nar_b _) dJ9_equals_10 (by omega) (by omega) ⟨rfl, rfl⟩
  · refine y_iconst E dJ9_equals_5 ?_
    refine y_goto (tgt := 10) E dJ9_equals_6 (by decide) ?_
    refine y_top (v' := .int (iI (b2i (decide (a = b))))) (by rw [decide_eq_true (Option.some.inj h2)]; rfl) ?_
    refine y_ireturn E F rfl (nar_b _) dJ9_equals_10 (by omega) (by omega) ⟨rfl, rfl⟩
theorem c_J12_equals {G : yH} {a b : Nat} {t : yT} {ci : Nat} {fs : List Value} (h : G a = some (t, .inr (ci, fs))) (hci : ci = 18 ∨ ci = 19 ∨ ci = 20) : Ct_J12_equals Γ 2 0 0 [.ref a, .ref b] G (fun r G' => r = some (.int (iI (b2i (decide (a = b))))) ∧ G' = G) noX := by
  refine y_start (lv0 := [some (.ref a), some (.ref b)]) (nm := "equals") (own := RJ12) (by decide +kernel) rfl rfl (by first | exact Nat.le_of_ble_eq_true rfl | (simp only [yArgs, va_cat_rf]; simp [Value.category])) (by first | rfl | (simp only [yArgs, va_cat_rf]; simp [Value.category])) ?_
  intro Z Q E F
  first | refine y_ald_n E dJ12_equals_0 (by rfl) ?_ | refine y_aload_n E dJ12_equals_0 (by rfl) ?_
  first | refine y_ald_n E dJ12_equals_1 (by rfl) ?_ | refine y_aload_n E dJ12_equals_1 (by rfl) ?_
  refine y_eq (st' := [va_rf (some b), va_rf (some a)]) rfl ?_
  refine y_acmp_eq  (tgt := 17) E dJ12_equals_2 (by decide) (fun h2 => ?_) (fun h2 => ?_)
  · refine y_iconst E dJ12_equals_17 ?_
    refine y_goto (tgt := 22) E dJ12_equals_18 (by decide) ?_
    refine y_top (v' := .int (iI (b2i (decide (a = b))))) (by rw [decide_eq_true (Option.some.inj h2)]; rfl) ?_
    refine y_ireturn E F rfl (nar_b _) dJ12_equals_22 (by omega) (by omega) ⟨rfl, rfl⟩
  · have hne : a ≠ b := fun e => h2 (by rw [e])
    first | refine y_ald_n E dJ12_equals_5 (by rfl) ?_ | refine y_aload_n E dJ12_equals_5 (by rfl) ?_
    refine y_ifnull_r E dJ12_equals_6 ?_
    first | refine y_ald_n E dJ12_equals_9 (by rfl) ?_ | refine y_aload_n E dJ12_equals_9 (by rfl) ?_
    first | refine y_ald_n E dJ12_equals_10 (by rfl) ?_ | refine y_aload_n E dJ12_equals_10 (by rfl) ?_
    have K : ∀ v G', (v = some (Value.int (iI (b2i (decide (a = b))))) ∧ G' = G) → Y Γ Z (0 + 0) (0 + 0) Q G' (11 + 3) [some (.ref a), some (.ref b)] (v.toList ++ []) := by
      rintro v G' ⟨rfl, rfl⟩
      rw [decide_eq_false hne]
      refine y_eq (st' := [.int (iI (b2i false))]) rfl ?_
      refine y_ifb_eq (tgt := 21) E dJ12_equals_14 (by decide) (fun hb => ?_) (fun hb => ?_)
      · refine y_iconst E dJ12_equals_21 ?_
        refine y_top (v' := .int (iI (b2i (decide (a = b))))) (by rw [decide_eq_false hne]; rfl) ?_
        refine y_ireturn E F rfl (nar_b _) dJ12_equals_22 (by omega) (by omega) ⟨rfl, rfl⟩
      · cases hb
    rcases hci with rfl | rfl | rfl
    · refine y_callU E dJ12_equals_11 lk_J12_14_X9 (c_J9_equals (a := a) (b := b)) (by rfl) (h) rfl (by decide) (by omega) (by omega) rfl (Nat.le_of_ble_eq_true rfl) ?_ (fun _ _ _ h => h.elim)
      exact K
    · refine y_callU E dJ12_equals_11 lk_J12_14_X10 (c_J9_equals (a := a) (b := b)) (by rfl) (h) rfl (by decide) (by omega) (by omega) rfl (Nat.le_of_ble_eq_true rfl) ?_ (fun _ _ _ h => h.elim)
      exact K
    · refine y_callU E dJ12_equals_11 lk_J12_14_X11 (c_J9_equals (a := a) (b := b)) (by rfl) (h) rfl (by decide) (by omega) (by omega) rfl (Nat.le_of_ble_eq_true rfl) ?_ (fun _ _ _ h => h.elim)
      exact K
theorem c_J16_indexOf {G : yH} {τ : Nat × Nat} {a x0 x1 x2 j b : Nat} {t : yT} {ci : Nat} {fs : List Value} (H : isLN G τ a x0 x1 x2) (hb : G b = some (t, .inr (ci, fs))) (hci : ci = 18 ∨ ci = 19 ∨ ci = 20) (hj : j < 3) (hjb : f3 x0 x1 x2 j = some b) (hlt : ∀ i, i < j → f3 x0 x1 x2 i ≠ some b) : Ct_J16_indexOf Γ 3 0 0 [.ref a, .ref b] G (fun r G' => r = some (.int (iI j)) ∧ G' = G) noX := by
  obtain ⟨q, f, h1, h2, e0, e1, e2⟩ := H
  have hf : ∀ i, i < 3 → f i = f3 x0 x1 x2 i := by
    intro i hi
    rcases (show i = 0 ∨ i = 1 ∨ i = 2 by omega) with rfl | rfl | rfl
    · exact e0
    · exact e1
    · exact e2
  refine y_start (lv0 := [some (.ref a), some (.ref b), none, none]) (nm := "indexOf") (own := RJ16) (by decide +kernel) rfl rfl (by first | exact Nat.le_of_ble_eq_true rfl | (simp only [yArgs, va_cat_rf]; simp [Value.category])) (by first | rfl | (simp only [yArgs, va_cat_rf]; simp [Value.category])) ?_
  intro Z Q E F
  first | refine y_ald_n E dJ16_indexOf_0 (by rfl) ?_ | refine y_aload_n E dJ16_indexOf_0 (by rfl) ?_
  refine y_get E dJ16_indexOf_1 fl_J16_13_J16 (by assumption) (by rfl) ?_
  refine y_if_ne (tgt := 19) E dJ16_indexOf_4 (by decide) (by omega) (fun h4 => ?_) (fun h4 => ?_)
  · exact absurd h4 (by decide)
  · first | refine y_ald_n E dJ16_indexOf_7 (by rfl) ?_ | refine y_aload_n E dJ16_indexOf_7 (by rfl) ?_
    refine y_ifnonnull_r (tgt := 19) E dJ16_indexOf_8 (by decide) ?_
    first | refine y_ald_n E dJ16_indexOf_19 (by rfl) ?_ | refine y_aload_n E dJ16_indexOf_19 (by rfl) ?_
    refine y_get E dJ16_indexOf_20 fl_J16_7_J16 (by assumption) (by rfl) ?_
    first | refine y_ast_n (j := 2) E dJ16_indexOf_23 rfl (Nat.le_of_ble_eq_true rfl) ?_ | refine y_astore_n (j := 2) E dJ16_indexOf_23 rfl (Nat.le_of_ble_eq_true rfl) ?_ | refine y_astore_n (j := 2) (r := none) E dJ16_indexOf_23 rfl (Nat.le_of_ble_eq_true rfl) ?_
    refine y_iconst E dJ16_indexOf_24 ?_
    refine y_istore_n (j := 3) E dJ16_indexOf_25 rfl (Nat.le_of_ble_eq_true rfl) ?_
    have loop : ∀ (d i : Nat), i + d = j → Y Γ Z 0 0 Q G 26 [some (.ref a), some (.ref b), some (.ref q), some (.int (iI i))] [] := by
      intro d
      induction d with
      | zero =>
        intro i hi
        have hi : i = j := by omega
        subst hi
        refine y_iload_n E dJ16_indexOf_26 (by rfl) ?_
        first | refine y_ald_n E dJ16_indexOf_27 (by rfl) ?_ | refine y_aload_n E dJ16_indexOf_27 (by rfl) ?_
        first | refine y_alenI E dJ16_indexOf_28 (by assumption) (by decide) ?_ | refine y_alenR E dJ16_indexOf_28 (by assumption) (by decide) ?_ | refine y_alenL E dJ16_indexOf_28 (by assumption) ?_
        refine y_icmp_ge (tgt := 50) E dJ16_indexOf_29 (by decide) (by omega) (by omega) (fun hc => ?_) (fun hc => ?_)
        · exfalso
          omega
        · first | refine y_ald_n E dJ16_indexOf_32 (by rfl) ?_ | refine y_aload_n E dJ16_indexOf_32 (by rfl) ?_
          first | refine y_ald_n E dJ16_indexOf_33 (by rfl) ?_ | refine y_aload_n E dJ16_indexOf_33 (by rfl) ?_
          refine y_iload_n E dJ16_indexOf_34 (by rfl) ?_
          refine y_aald E 5 rfl (by decide) dJ16_indexOf_35 (by assumption) (by omega) ?_
          refine y_top (v' := .ref b) (by rw [show f ((i : Int).toNat) = some b from (hf i hj).trans hjb]; rfl) ?_
          refine y_callS E dJ16_indexOf_36 lk_J16_53 (c_J12_equals (a := b) (b := b) hb hci) (by rfl) (by decide) (by omega) (by omega) rfl (Nat.le_of_ble_eq_true rfl) ?_ (fun _ _ _ h => h.elim)
          rintro v G' ⟨rfl, rfl⟩
          rw [decide_eq_true (rfl : b = b)]
          refine y_eq (st' := [.int (iI (b2i true))]) rfl ?_
          refine y_ifb_eq (tgt := 44) E dJ16_indexOf_39 (by decide) (fun hd => ?_) (fun hd => ?_)
          · cases hd
          · refine y_iload_n E dJ16_indexOf_42 (by rfl) ?_
            refine y_ireturn E F rfl rfl dJ16_indexOf_43 (by omega) (by omega) ⟨rfl, rfl⟩
      | succ d ih =>
        intro i hi
        obtain ⟨x, hx⟩ : ∃ x, f i = some x := by
          rcases (show i = 0 ∨ i = 1 by omega) with rfl | rfl
          · exact ⟨_, e0⟩
          · exact ⟨_, e1⟩
        have hne : b ≠ x := fun e => hlt i (by omega) (by rw [← hf i (by omega), hx, e])
        refine y_iload_n E dJ16_indexOf_26 (by rfl) ?_
        first | refine y_ald_n E dJ16_indexOf_27 (by rfl) ?_ | refine y_aload_n E dJ16_indexOf_27 (by rfl) ?_
        first | refine y_alenI E dJ16_indexOf_28 (by assumption) (by decide) ?_ | refine y_alenR E dJ16_indexOf_28 (by assumption) (by decide) ?_ | refine y_alenL E dJ16_indexOf_28 (by assumption) ?_
        refine y_icmp_ge (tgt := 50) E dJ16_indexOf_29 (by decide) (by omega) (by omega) (fun hc => ?_) (fun hc => ?_)
        · exfalso
          omega
        · first | refine y_ald_n E dJ16_indexOf_32 (by rfl) ?_ | refine y_aload_n E dJ16_indexOf_32 (by rfl) ?_
          first | refine y_ald_n E dJ16_indexOf_33 (by rfl) ?_ | refine y_aload_n E dJ16_indexOf_33 (by rfl) ?_
          refine y_iload_n E dJ16_indexOf_34 (by rfl) ?_
          refine y_aald E 5 rfl (by decide) dJ16_indexOf_35 (by assumption) (by omega) ?_
          refine y_top (v' := .ref x) (by rw [show f ((i : Int).toNat) = some x from hx]; rfl) ?_
          refine y_callS E dJ16_indexOf_36 lk_J16_53 (c_J12_equals (a := b) (b := x) hb hci) (by rfl) (by decide) (by omega) (by omega) rfl (Nat.le_of_ble_eq_true rfl) ?_ (fun _ _ _ h => h.elim)
          rintro v G' ⟨rfl, rfl⟩
          rw [decide_eq_false hne]
          refine y_eq (st' := [.int (iI (b2i false))]) rfl ?_
          refine y_ifb_eq (tgt := 44) E dJ16_indexOf_39 (by decide) (fun hd => ?_) (fun hd => ?_)
          · refine y_iinc E dJ16_indexOf_44 (by rfl) ?_
            refine y_goto (tgt := 26) E dJ16_indexOf_47 (by decide) ?_
            exact y_lv (lv' := [some (.ref a), some (.ref b), some (.ref q), some (.int (iI ((i + 1 : Nat) : Int)))]) rfl (ih (i + 1) (by omega))
          · cases hd
    exact loop j 0 (by omega)
end LN
