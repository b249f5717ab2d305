/-! ===== java.util.ArrayDeque ===== -/
def dqE (q : Nat) (h t : Int) : yE := .inr (14, [.ref q, .int (iI h), .int (iI t)])
/-- a deque that has never wrapped round: its first element at h -/
def isAQ (G : yH) (τ : Nat × Nat) (a : Nat) (h : Nat) (xs : List Nat) : Prop := ∃ (q : Nat) (f : Nat → Option Nat), G a = some (some τ, dqE q h ((h + xs.length : Nat) : Int)) ∧ G q = some (some τ, aR 5 17 f) ∧ h + xs.length ≤ 15 ∧ ∀ i, i < xs.length → f (h + i) = xs[i]?
theorem isAQ.kk {P : Nat × Nat → Prop} {G G' : yH} {τ : Nat × Nat} {a h : Nat} {xs : List Nat} (H : isAQ G τ a h xs) (hk : gK P G G') (hP : ¬ P τ) : isAQ G' τ a h xs := by
  obtain ⟨q, f, h1, h2, h3⟩ := H
  exact ⟨q, f, hk.at h1 hP, hk.at h2 hP, h3⟩
section AQ
variable {Γ : yG}
set_option maxHeartbeats 4000000
theorem c_J38_init {G : yH} {a : Nat} {τ : Nat × Nat} (h : G a = some (some τ, .inr (14, [.null, .int (iI 0), .int (iI 0)]))) : Ct_J38_init Γ 2 1 17 [.ref a] G (fun r G' => r = none ∧ isAQ G' τ a 0 [] ∧ gK (· = τ) G G') noX := by
  refine y_start (lv0 := [some (.ref a)]) (nm := "<init>") (own := RJ38) (by decide +kernel) rfl rfl (by first | exact Nat.le_of_ble_eq_true rfl | (simp only [yArgs, va_cat_rf]; simp [Value.category])) (by first | rfl | (simp only [yArgs, va_cat_rf]; simp [Value.category])) ?_
  intro Z Q E F
  first | refine y_ald_n E dJ38_init_0 (by rfl) ?_ | refine y_aload_n E dJ38_init_0 (by rfl) ?_
  refine y_callI E dJ38_init_1 lk_J38_42 (c_J0_init (G := G) (a := a)) (by rfl) (by decide) (by omega) (by omega) rfl (Nat.le_of_ble_eq_true rfl) ?_ (fun _ _ _ h => h.elim)
  rintro v G' ⟨rfl, rfl⟩
  first | refine y_ald_n E dJ38_init_4 (by rfl) ?_ | refine y_aload_n E dJ38_init_4 (by rfl) ?_
  refine y_bipush E dJ38_init_5 (by decide) ?_
  refine y_newR E 5 τ rfl (by decide) q1864 (by decide +kernel) dJ38_init_7 (by omega) (by omega) (by omega) (fun q hq => ?_)
  have hqa : a ≠ q := g_nn h hq
  refine y_put E dJ38_init_10 fl_J38_3_J38 fw_J38_0 (by first | rfl | exact nar_r _ _) (by first | rfl | exact fit_r _ _) (gs_n hqa h) (Nat.le_of_ble_eq_true rfl) ?_
  refine y_return E F rfl dJ38_init_13 (by omega) (by omega) ⟨rfl, ⟨q, _, gset_s _ _ _, gs_n hqa.symm (gset_s _ _ _), by simp, fun i hi => by simp at hi⟩, gK_t (gK_n _ hq) (gK_w _ (gs_n hqa h) rfl)⟩
theorem c_J38_inc {G : yH} {i : Nat} (hi : i < 16) : Ct_J38_inc Γ 1 0 0 [.int (iI i), .int (iI 17)] G (fun r G' => r = some (.int (iI ((i + 1 : Nat) : Int))) ∧ G' = G) noX := by
  refine y_start (lv0 := [some (.int (iI i)), some (.int (iI 17))]) (nm := "inc") (own := RJ38) (by decide +kernel) rfl rfl (by first | exact Nat.le_of_ble_eq_true rfl | (simp only [yArgs, va_cat_rf]; simp [Value.category])) (by first | rfl | (simp only [yArgs, va_cat_rf]; simp [Value.category])) ?_
  intro Z Q E F
  refine y_iinc E dJ38_inc_0 (by rfl) ?_
  refine y_iload_n E dJ38_inc_3 (by rfl) ?_
  refine y_iload_n E dJ38_inc_4 (by rfl) ?_
  refine y_icmp_lt (tgt := 10) E dJ38_inc_5 (by decide) (by omega) (by omega) (fun h5 => ?_) (fun h5 => ?_)
  · refine y_iload_n E dJ38_inc_10 (by rfl) ?_
    refine y_top (v' := .int (iI ((i + 1 : Nat) : Int))) rfl ?_
    refine y_ireturn E F rfl rfl dJ38_inc_11 (by omega) (by omega) ⟨rfl, rfl⟩
  · exfalso
    omega
theorem c_J38_addLast {G : yH} {τ : Nat × Nat} {a h x : Nat} {xs : List Nat} (H : isAQ G τ a h xs) (hn : h + xs.length < 15) (hx : okR G "java/lang/Object" (some x)) : Ct_J38_addLast Γ 2 0 0 [.ref a, .ref x] G (fun r G' => r = none ∧ isAQ G' τ a h (xs ++ [x]) ∧ gK (· = τ) G G') noX := by
  obtain ⟨q, f, h1, h2, h3, h4⟩ := H
  unfold dqE at h1
  have hqa : a ≠ q := g_ne h1 h2 (by simp [aR])
  refine y_start (lv0 := [some (.ref a), some (.ref x), none]) (nm := "addLast") (own := RJ38) (by decide +kernel) rfl rfl (by first | exact Nat.le_of_ble_eq_true rfl | (simp only [yArgs, va_cat_rf]; simp [Value.category])) (by first | rfl | (simp only [yArgs, va_cat_rf]; simp [Value.category])) ?_
  intro Z Q E F
  first | refine y_ald_n E dJ38_addLast_0 (by rfl) ?_ | refine y_aload_n E dJ38_addLast_0 (by rfl) ?_
  refine y_ifnonnull_r (tgt := 12) E dJ38_addLast_1 (by decide) ?_
  first | refine y_ald_n E dJ38_addLast_12 (by rfl) ?_ | refine y_aload_n E dJ38_addLast_12 (by rfl) ?_
  refine y_get E dJ38_addLast_13 fl_J38_3_J38 (by assumption) (by rfl) ?_
  first | refine y_ast_n (j := 2) E dJ38_addLast_16 rfl (Nat.le_of_ble_eq_true rfl) ?_ | refine y_astore_n (j := 2) E dJ38_addLast_16 rfl (Nat.le_of_ble_eq_true rfl) ?_ | refine y_astore_n (j := 2) (r := none) E dJ38_addLast_16 rfl (Nat.le_of_ble_eq_true rfl) ?_
  first | refine y_ald_n E dJ38_addLast_17 (by rfl) ?_ | refine y_aload_n E dJ38_addLast_17 (by rfl) ?_
  first | refine y_ald_n E dJ38_addLast_18 (by rfl) ?_ | refine y_aload_n E dJ38_addLast_18 (by rfl) ?_
  refine y_get E dJ38_addLast_19 fl_J38_20_J38 (by assumption) (by rfl) ?_
  first | refine y_ald_n E dJ38_addLast_22 (by rfl) ?_ | refine y_aload_n E dJ38_addLast_22 (by rfl) ?_
  refine y_aast (r := some x) E 5 rfl (by decide) dJ38_addLast_23 h2 (by omega) hx ?_
  have h1' := gs_n (v := (some τ, aR 5 17 (upN f (h + xs.length) (some x)))) hqa h1
  first | refine y_ald_n E dJ38_addLast_24 (by rfl) ?_ | refine y_aload_n E dJ38_addLast_24 (by rfl) ?_
  refine y_get E dJ38_addLast_25 fl_J38_24_J38 (by assumption) (by rfl) ?_
  first | refine y_ald_n E dJ38_addLast_28 (by rfl) ?_ | refine y_aload_n E dJ38_addLast_28 (by rfl) ?_
  first | refine y_ald_n E dJ38_addLast_29 (by rfl) ?_ | refine y_aload_n E dJ38_addLast_29 (by rfl) ?_
  refine y_get E dJ38_addLast_30 fl_J38_20_J38 (by assumption) (by rfl) ?_
  first | refine y_ald_n E dJ38_addLast_33 (by rfl) ?_ | refine y_aload_n E dJ38_addLast_33 (by rfl) ?_
  first | refine y_alenI E dJ38_addLast_34 (gset_s _ _ _) (by decide) ?_ | refine y_alenR E dJ38_addLast_34 (gset_s _ _ _) (by decide) ?_ | refine y_alenL E dJ38_addLast_34 (gset_s _ _ _) ?_
  refine y_callS E dJ38_addLast_35 lk_J38_74 (c_J38_inc (i := h + xs.length) (by omega)) (by rfl) (by decide) (by omega) (by omega) rfl (Nat.le_of_ble_eq_true rfl) ?_ (fun _ _ _ h => h.elim)
  rintro v G' ⟨rfl, rfl⟩
  refine y_eq (st' := [.int (iI ((h + xs.length + 1 : Nat) : Int)), .ref a, .int (iI h)]) rfl ?_
  refine y_dup_x1 E dJ38_addLast_38 rfl rfl ?_
  refine y_put E dJ38_addLast_39 fl_J38_20_J38 fw_J38_2 rfl (by rfl) (by assumption) (Nat.le_of_ble_eq_true rfl) ?_
  refine y_icmp_ne (tgt := 50) E dJ38_addLast_42 (by decide) (by omega) (by omega) (fun h42 => ?_) (fun h42 => ?_)
  · refine y_return E F rfl dJ38_addLast_50 (by omega) (by omega) ⟨rfl, ⟨q, _, by rw [gset_s]; simp [dqE, Nat.add_assoc], gs_n hqa.symm (gset_s _ _ _), by simp; omega, fun i hi => ?_⟩, gK_t (gK_w _ h2 rfl) (gK_w _ h1' rfl)⟩
    by_cases hi2 : i < xs.length
    · rw [List.getElem?_append_left hi2, ← h4 i hi2]
      exact upN_n _ (by omega)
    · have : i = xs.length := by simp at hi; omega
      subst this
      simp only [upN]
      rw [if_pos (by omega)]
      simp
  · exfalso
    omega
theorem c_J38_add {G : yH} {τ : Nat × Nat} {a h x : Nat} {xs : List Nat} (H : isAQ G τ a h xs) (hn : h + xs.length < 15) (hx : okR G "java/lang/Object" (some x)) : Ct_J38_add Γ 3 0 0 [.ref a, .ref x] G (fun r G' => r = some (.int (iI 1)) ∧ isAQ G' τ a h (xs ++ [x]) ∧ gK (· = τ) G G') noX := by
  have H' := H
  obtain ⟨q, f, h1, h2, h3, h4⟩ := H
  refine y_start (lv0 := [some (.ref a), some (.ref x)]) (nm := "add") (own := RJ38) (by decide +kernel) rfl rfl (by first | exact Nat.le_of_ble_eq_true rfl | (simp only [yArgs, va_cat_rf]; simp [Value.category])) (by first | rfl | (simp only [yArgs, va_cat_rf]; simp [Value.category])) ?_
  intro Z Q E F
  first | refine y_ald_n E dJ38_add_0 (by rfl) ?_ | refine y_aload_n E dJ38_add_0 (by rfl) ?_
  first | refine y_ald_n E dJ38_add_1 (by rfl) ?_ | refine y_aload_n E dJ38_add_1 (by rfl) ?_
  refine y_callV E dJ38_add_2 lk_J38_90 (c_J38_addLast H' hn hx) (by rfl) h1 rfl (by decide) (by omega) (by omega) rfl (Nat.le_of_ble_eq_true rfl) ?_ (fun _ _ _ h => h.elim)
  rintro v G' ⟨rfl, a1, a2⟩
  refine y_iconst E dJ38_add_5 ?_
  refine y_ireturn E F rfl (nar_z (Or.inr rfl)) dJ38_add_6 (by omega) (by omega) ⟨rfl, a1, a2⟩
theorem c_J38_isEmpty {G : yH} {τ : Nat × Nat} {a h : Nat} {xs : List Nat} (H : isAQ G τ a h xs) : Ct_J38_isEmpty Γ 1 0 0 [.ref a] G (fun r G' => r = some (.int (iI (b2i xs.isEmpty))) ∧ G' = G) noX := by
  obtain ⟨q, f, h1, h2, h3, h4⟩ := H
  unfold dqE at h1
  refine y_start (lv0 := [some (.ref a)]) (nm := "isEmpty") (own := RJ38) (by decide +kernel) rfl rfl (by first | exact Nat.le_of_ble_eq_true rfl | (simp only [yArgs, va_cat_rf]; simp [Value.category])) (by first | rfl | (simp only [yArgs, va_cat_rf]; simp [Value.category])) ?_
  intro Z Q E F
  first | refine y_ald_n E dJ38_isEmpty_0 (by rfl) ?_ | refine y_aload_n E dJ38_isEmpty_0 (by rfl) ?_
  refine y_get E dJ38_isEmpty_1 fl_J38_24_J38 (by assumption) (by rfl) ?_
  first | refine y_ald_n E dJ38_isEmpty_4 (by rfl) ?_ | refine y_aload_n E dJ38_isEmpty_4 (by rfl) ?_
  refine y_get E dJ38_isEmpty_5 fl_J38_20_J38 (by assumption) (by rfl) ?_
  refine y_icmp_ne (tgt := 15) E dJ38_isEmpty_8 (by decide) (by omega) (by omega) (fun h8 => ?_) (fun h8 => ?_)
  · refine y_iconst E dJ38_isEmpty_15 ?_
    refine y_top (v' := .int (iI (b2i xs.isEmpty))) (by cases xs with | nil => simp at h8 | cons z zs => rfl) ?_
    refine y_ireturn E F rfl (nar_b _) dJ38_isEmpty_16 (by omega) (by omega) ⟨rfl, rfl⟩
  · refine y_iconst E dJ38_isEmpty_11 ?_
    refine y_goto (tgt := 16) E dJ38_isEmpty_12 (by decide) ?_
    refine y_top (v' := .int (iI (b2i xs.isEmpty))) (by cases xs with | nil => rfl | cons z zs => (exfalso; simp at h8; omega)) ?_
    refine y_ireturn E F rfl (nar_b _) dJ38_isEmpty_16 (by omega) (by omega) ⟨rfl, rfl⟩
theorem c_J38_elementAt {G : yH} {τ : Nat × Nat} {q i : Nat} {f : Nat → Option Nat} (h : G q = some (some τ, aR 5 17 f)) (hi : i < 16) : Ct_J38_elementAt Γ 1 0 0 [.ref q, .int (iI i)] G (fun r G' => r = some (va_rf (f i)) ∧ G' = G) noX := by
  refine y_start (lv0 := [some (.ref q), some (.int (iI i))]) (nm := "elementAt") (own := RJ38) (by decide +kernel) rfl rfl (by first | exact Nat.le_of_ble_eq_true rfl | (simp only [yArgs, va_cat_rf]; simp [Value.category])) (by first | rfl | (simp only [yArgs, va_cat_rf]; simp [Value.category])) ?_
  intro Z Q E F
  first | refine y_ald_n E dJ38_elementAt_0 (by rfl) ?_ | refine y_aload_n E dJ38_elementAt_0 (by rfl) ?_
  refine y_iload_n E dJ38_elementAt_1 (by rfl) ?_
  refine y_aald E 5 rfl (by decide) dJ38_elementAt_2 (by assumption) (by omega) ?_
  refine y_areturn E F rfl (Or.inl ⟨_, rfl⟩) dJ38_elementAt_3 (by omega) (by omega) ⟨rfl, rfl⟩
theorem c_J38_pollFirst {G : yH} {τ : Nat × Nat} {a h x : Nat} {xs : List Nat} (H : isAQ G τ a h (x :: xs)) : Ct_J38_pollFirst Γ 2 0 0 [.ref a] G (fun r G' => r = some (.ref x) ∧ isAQ G' τ a (h + 1) xs ∧ gK (· = τ) G G') noX := by
  obtain ⟨q, f, h1, h2, h3, h4⟩ := H
  unfold dqE at h1
  have hqa : a ≠ q := g_ne h1 h2 (by simp [aR])
  simp only [List.length_cons] at h1 h3 h4
  refine y_start (lv0 := [some (.ref a), none, none, none]) (nm := "pollFirst") (own := RJ38) (by decide +kernel) rfl rfl (by first | exact Nat.le_of_ble_eq_true rfl | (simp only [yArgs, va_cat_rf]; simp [Value.category])) (by first | rfl | (simp only [yArgs, va_cat_rf]; simp [Value.category])) ?_
  intro Z Q E F
  first | refine y_ald_n E dJ38_pollFirst_0 (by rfl) ?_ | refine y_aload_n E dJ38_pollFirst_0 (by rfl) ?_
  refine y_get E dJ38_pollFirst_1 fl_J38_3_J38 (by assumption) (by rfl) ?_
  refine y_dup E dJ38_pollFirst_4 rfl ?_
  first | refine y_ast_n (j := 1) E dJ38_pollFirst_5 rfl (Nat.le_of_ble_eq_true rfl) ?_ | refine y_astore_n (j := 1) E dJ38_pollFirst_5 rfl (Nat.le_of_ble_eq_true rfl) ?_ | refine y_astore_n (j := 1) (r := none) E dJ38_pollFirst_5 rfl (Nat.le_of_ble_eq_true rfl) ?_
  first | refine y_ald_n E dJ38_pollFirst_6 (by rfl) ?_ | refine y_aload_n E dJ38_pollFirst_6 (by rfl) ?_
  refine y_get E dJ38_pollFirst_7 fl_J38_24_J38 (by assumption) (by rfl) ?_
  refine y_dup E dJ38_pollFirst_10 rfl ?_
  refine y_istore_n (j := 2) E dJ38_pollFirst_11 rfl (Nat.le_of_ble_eq_true rfl) ?_
  refine y_callS E dJ38_pollFirst_12 lk_J38_103 (c_J38_elementAt (i := h) h2 (by omega)) (by rfl) (by decide) (by omega) (by omega) rfl (Nat.le_of_ble_eq_true rfl) ?_ (fun _ _ _ h => h.elim)
  rintro v G' ⟨rfl, rfl⟩
  have hf : f h = some x := by have := h4 0 (by omega); simpa using this
  rw [hf]
  refine y_eq (st' := [.ref x]) rfl ?_
  first | refine y_ast_n (j := 3) E dJ38_pollFirst_15 rfl (Nat.le_of_ble_eq_true rfl) ?_ | refine y_astore_n (j := 3) E dJ38_pollFirst_15 rfl (Nat.le_of_ble_eq_true rfl) ?_ | refine y_astore_n (j := 3) (r := none) E dJ38_pollFirst_15 rfl (Nat.le_of_ble_eq_true rfl) ?_
  first | refine y_ald_n E dJ38_pollFirst_16 (by rfl) ?_ | refine y_aload_n E dJ38_pollFirst_16 (by rfl) ?_
  refine y_ifnull_r E dJ38_pollFirst_17 ?_
  first | refine y_ald_n E dJ38_pollFirst_20 (by rfl) ?_ | refine y_aload_n E dJ38_pollFirst_20 (by rfl) ?_
  refine y_iload_n E dJ38_pollFirst_21 (by rfl) ?_
  refine y_null E dJ38_pollFirst_22 ?_
  refine y_aast (r := none) E 5 rfl (by decide) dJ38_pollFirst_23 h2 (by omega) (fun v hv => by cases hv) ?_
  have h1' := gs_n (v := (some τ, aR 5 17 (upN f h none))) hqa h1
  first | refine y_ald_n E dJ38_pollFirst_24 (by rfl) ?_ | refine y_aload_n E dJ38_pollFirst_24 (by rfl) ?_
  refine y_iload_n E dJ38_pollFirst_25 (by rfl) ?_
  first | refine y_ald_n E dJ38_pollFirst_26 (by rfl) ?_ | refine y_aload_n E dJ38_pollFirst_26 (by rfl) ?_
  first | refine y_alenI E dJ38_pollFirst_27 (gset_s _ _ _) (by decide) ?_ | refine y_alenR E dJ38_pollFirst_27 (gset_s _ _ _) (by decide) ?_ | refine y_alenL E dJ38_pollFirst_27 (gset_s _ _ _) ?_
  refine y_callS E dJ38_pollFirst_28 lk_J38_74 (c_J38_inc (i := h) (by omega)) (by rfl) (by decide) (by omega) (by omega) rfl (Nat.le_of_ble_eq_true rfl) ?_ (fun _ _ _ h => h.elim)
  rintro v G' ⟨rfl, rfl⟩
  refine y_eq (st' := [.int (iI ((h + 1 : Nat) : Int)), .ref a]) rfl ?_
  refine y_put E dJ38_pollFirst_31 fl_J38_24_J38 fw_J38_1 rfl (by rfl) (by assumption) (Nat.le_of_ble_eq_true rfl) ?_
  first | refine y_ald_n E dJ38_pollFirst_34 (by rfl) ?_ | refine y_aload_n E dJ38_pollFirst_34 (by rfl) ?_
  refine y_areturn (r := some x) E F rfl (Or.inl ⟨_, rfl⟩) dJ38_pollFirst_35 (by omega) (by omega) ⟨rfl, ⟨q, _, by rw [gset_s]; simp [dqE, Nat.add_comm, Nat.add_left_comm], gs_n hqa.symm (gset_s _ _ _), by omega, fun i hi => ?_⟩, gK_t (gK_w _ h2 rfl) (gK_w _ h1' rfl)⟩
  rw [upN_n _ (by omega)]
  have := h4 (i + 1) (by omega)
  rw [show h + 1 + i = h + (i + 1) by omega, this]
  simp
theorem c_J38_poll {G : yH} {τ : Nat × Nat} {a h x : Nat} {xs : List Nat} (H : isAQ G τ a h (x :: xs)) : Ct_J38_poll Γ 3 0 0 [.ref a] G (fun r G' => r = some (.ref x) ∧ isAQ G' τ a (h + 1) xs ∧ gK (· = τ) G G') noX := by
  have H' := H
  obtain ⟨q, f, h1, h2, h3, h4⟩ := H
  refine y_start (lv0 := [some (.ref a)]) (nm := "poll") (own := RJ38) (by decide +kernel) rfl rfl (by first | exact Nat.le_of_ble_eq_true rfl | (simp only [yArgs, va_cat_rf]; simp [Value.category])) (by first | rfl | (simp only [yArgs, va_cat_rf]; simp [Value.category])) ?_
  intro Z Q E F
  first | refine y_ald_n E dJ38_poll_0 (by rfl) ?_ | refine y_aload_n E dJ38_poll_0 (by rfl) ?_
  refine y_callV E dJ38_poll_1 lk_J38_93 (c_J38_pollFirst H') (by rfl) h1 rfl (by decide) (by omega) (by omega) rfl (Nat.le_of_ble_eq_true rfl) ?_ (fun _ _ _ h => h.elim)
  rintro v G' ⟨rfl, a1, a2⟩
  refine y_areturn (r := some x) E F rfl (Or.inl ⟨_, rfl⟩) dJ38_poll_4 (by omega) (by omega) ⟨rfl, a1, a2⟩
end AQ
