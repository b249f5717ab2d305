/-! ===== java.util.ArrayList ===== -/
def alE (mc : Int32) (e : Nat) (n : Int) : yE := .inr (8, [.int mc, .ref e, .int (iI n)])
/-- a list object a with the elements xs: its cells have the tag τ (but the empty array) -/
def isAL (Γ : yG) (G : yH) (τ : Nat × Nat) (a : Nat) (xs : List Nat) : Prop := ∃ (mc : Int32) (e cap : Nat) (f : Nat → Option Nat) (te : yT), G a = some (some τ, alE mc e xs.length) ∧ G e = some (te, aR 5 cap f) ∧ xs.length ≤ cap ∧ cap ≤ 15 ∧ (∀ i, i < xs.length → f i = xs[i]?) ∧ ((cap = 0 ∧ e = yad Γ 3) ∨ (te = some τ ∧ (cap = 10 ∨ cap = 15) ∧ e ≠ yad Γ 3))
theorem isAL.kk {Γ : yG} {P : Nat × Nat → Prop} {G G' : yH} {τ : Nat × Nat} {a : Nat} {xs : List Nat} (hB : gB Γ G) (h : isAL Γ G τ a xs) (hk : gK P G G') (hP : ¬ P τ) : isAL Γ G' τ a xs := by
  obtain ⟨mc, e, cap, f, te, h1, h2, h3, h4, h5, h6⟩ := h
  refine ⟨mc, e, cap, f, te, hk.at h1 hP, ?_, h3, h4, h5, h6⟩
  rcases h6 with ⟨-, he⟩ | ⟨he, -⟩
  · subst he
    have := hB.1
    rw [this] at h2
    cases h2
    exact hk.ro this
  · subst he
    exact hk.at h2 hP
def itE (a : Nat) (k l : Int) (mc : Int32) : yE := .inr (11, [.int (iI k), .int (iI l), .int mc, .ref a])
section AL
variable {Γ : yG}
set_option maxHeartbeats 4000000
theorem c_J24_hasNext {G : yH} {it a e : Nat} {k l n : Int} {mc mc' : Int32} {t t' : yT} (h1 : G it = some (t, itE a k l mc)) (h2 : G a = some (t', alE mc' e n)) (hk : inR k) (hn : inR n) : Ct_J24_hasNext Γ 1 0 0 [.ref it] G (fun r G' => r = some (.int (iI (b2i (decide (k ≠ n))))) ∧ G' = G) noX := by
  unfold itE at h1
  unfold alE at h2
  refine y_start (lv0 := [some (.ref it)]) (nm := "hasNext") (own := RJ24) (by decide +kernel) rfl rfl (by first | exact Nat.le_of_ble_eq_true rfl | (simp only [yArgs, va_cat_rf]; simp [Value.category])) (by first | rfl | (simp only [yArgs, va_cat_rf]; simp [Value.category])) ?_
  intro Z Q E F
  first | refine y_ald_n E dJ24_hasNext_0 (by rfl) ?_ | refine y_aload_n E dJ24_hasNext_0 (by rfl) ?_
  refine y_get E dJ24_hasNext_1 fl_J24_25_J24 (by assumption) (by rfl) ?_
  first | refine y_ald_n E dJ24_hasNext_4 (by rfl) ?_ | refine y_aload_n E dJ24_hasNext_4 (by rfl) ?_
  refine y_get E dJ24_hasNext_5 fl_J24_1_J24 (by assumption) (by rfl) ?_
  refine y_getN E dJ24_hasNext_8 fl_J24_28_J2 (by assumption) (by rfl) ?_
  refine y_icmp_eq (tgt := 18) E dJ24_hasNext_11 (by decide) hk hn (fun h => ?_) (fun h => ?_)
  · refine y_iconst E dJ24_hasNext_18 ?_
    refine y_ireturn E F rfl (nar_z (by omega)) dJ24_hasNext_19 (by omega) (by omega) ⟨by simp [h, b2i], rfl⟩
  · refine y_iconst E dJ24_hasNext_14 ?_
    refine y_goto (tgt := 19) E dJ24_hasNext_15 (by decide) ?_
    refine y_ireturn E F rfl (nar_z (by omega)) dJ24_hasNext_19 (by omega) (by omega) ⟨by simp [h, b2i], rfl⟩
theorem c_J24_check {G : yH} {it a e : Nat} {k l n : Int} {mc : Int32} {t t' : yT} (h1 : G it = some (t, itE a k l mc)) (h2 : G a = some (t', alE mc e n)) : Ct_J24_checkForComodification Γ 1 0 0 [.ref it] G (fun r G' => r = none ∧ G' = G) noX := by
  unfold itE at h1
  unfold alE at h2
  refine y_start (lv0 := [some (.ref it)]) (nm := "checkForComodification") (own := RJ24) (by decide +kernel) rfl rfl (by first | exact Nat.le_of_ble_eq_true rfl | (simp only [yArgs, va_cat_rf]; simp [Value.category])) (by first | rfl | (simp only [yArgs, va_cat_rf]; simp [Value.category])) ?_
  intro Z Q E F
  first | refine y_ald_n E dJ24_checkForComodification_0 (by rfl) ?_ | refine y_aload_n E dJ24_checkForComodification_0 (by rfl) ?_
  refine y_get E dJ24_checkForComodification_1 fl_J24_1_J24 (by assumption) (by rfl) ?_
  refine y_get E dJ24_checkForComodification_4 fl_J24_17_J2 (by assumption) (by rfl) ?_
  first | refine y_ald_n E dJ24_checkForComodification_7 (by rfl) ?_ | refine y_aload_n E dJ24_checkForComodification_7 (by rfl) ?_
  refine y_get E dJ24_checkForComodification_8 fl_J24_22_J24 (by assumption) (by rfl) ?_
  refine y_icmp_same_eq (tgt := 22) E dJ24_checkForComodification_11 (by decide) ?_
  refine y_return E F rfl dJ24_checkForComodification_22 (by omega) (by omega) ⟨rfl, rfl⟩
theorem c_J24_next {G : yH} {it a e cap : Nat} {f : Nat → Option Nat} {k l n : Int} {mc : Int32} {τ : Nat × Nat} {t' te : yT} (h1 : G it = some (some τ, itE a k l mc)) (h2 : G a = some (t', alE mc e n)) (h3 : G e = some (te, aR 5 cap f)) (hk : 0 ≤ k ∧ k < n ∧ n ≤ cap ∧ cap ≤ 15) : Ct_J24_next Γ 2 0 0 [.ref it] G (fun r G' => r = some (va_rf (f k.toNat)) ∧ G' = gset G it (some τ, itE a (k + 1) k mc)) noX := by
  refine y_start (lv0 := [some (.ref it), none, none]) (nm := "next") (own := RJ24) (by decide +kernel) rfl rfl (by first | exact Nat.le_of_ble_eq_true rfl | (simp only [yArgs, va_cat_rf]; simp [Value.category])) (by first | rfl | (simp only [yArgs, va_cat_rf]; simp [Value.category])) ?_
  intro Z Q E F
  first | refine y_ald_n E dJ24_next_0 (by rfl) ?_ | refine y_aload_n E dJ24_next_0 (by rfl) ?_
  refine y_callV E dJ24_next_1 lk_J24_31 (c_J24_check h1 h2) (by rfl) h1 rfl (by decide) (by omega) (by omega) rfl (Nat.le_of_ble_eq_true rfl) ?_ (fun _ _ _ h => h.elim)
  rintro v G1 ⟨rfl, rfl⟩
  unfold itE at h1
  unfold alE at h2
  first | refine y_ald_n E dJ24_next_4 (by rfl) ?_ | refine y_aload_n E dJ24_next_4 (by rfl) ?_
  refine y_get E dJ24_next_5 fl_J24_25_J24 (by assumption) (by rfl) ?_
  refine y_istore_n (j := 1) E dJ24_next_8 rfl (Nat.le_of_ble_eq_true rfl) ?_
  refine y_iload_n E dJ24_next_9 (by rfl) ?_
  first | refine y_ald_n E dJ24_next_10 (by rfl) ?_ | refine y_aload_n E dJ24_next_10 (by rfl) ?_
  refine y_get E dJ24_next_11 fl_J24_1_J24 (by assumption) (by rfl) ?_
  refine y_getN E dJ24_next_14 fl_J24_28_J2 (by assumption) (by rfl) ?_
  refine y_icmp_lt (tgt := 28) E dJ24_next_17 (by decide) (by omega) (by omega) (fun h => ?_) (fun h => ?_)
  · first | refine y_ald_n E dJ24_next_28 (by rfl) ?_ | refine y_aload_n E dJ24_next_28 (by rfl) ?_
    refine y_get E dJ24_next_29 fl_J24_1_J24 (by assumption) (by rfl) ?_
    refine y_get E dJ24_next_32 fl_J24_37_J2 (by assumption) (by rfl) ?_
    first | refine y_ast_n (j := 2) E dJ24_next_35 rfl (Nat.le_of_ble_eq_true rfl) ?_ | refine y_astore_n (j := 2) E dJ24_next_35 rfl (Nat.le_of_ble_eq_true rfl) ?_ | refine y_astore_n (j := 2) (r := none) E dJ24_next_35 rfl (Nat.le_of_ble_eq_true rfl) ?_
    refine y_iload_n E dJ24_next_36 (by rfl) ?_
    first | refine y_ald_n E dJ24_next_37 (by rfl) ?_ | refine y_aload_n E dJ24_next_37 (by rfl) ?_
    first | refine y_alenI E dJ24_next_38 (by assumption) (by decide) ?_ | refine y_alenR E dJ24_next_38 (by assumption) (by decide) ?_ | refine y_alenL E dJ24_next_38 (by assumption) ?_
    refine y_icmp_lt (tgt := 50) E dJ24_next_39 (by decide) (by omega) (by omega) (fun h39 => ?_) (fun h39 => ?_)
    · first | refine y_ald_n E dJ24_next_50 (by rfl) ?_ | refine y_aload_n E dJ24_next_50 (by rfl) ?_
      refine y_iload_n E dJ24_next_51 (by rfl) ?_
      refine y_iconst E dJ24_next_52 ?_
      refine y_iadd E dJ24_next_53 ?_
      refine y_put E dJ24_next_54 fl_J24_25_J24 fw_J24_0 rfl (by rfl) (by assumption) (Nat.le_of_ble_eq_true rfl) ?_
      first | refine y_ald_n E dJ24_next_57 (by rfl) ?_ | refine y_aload_n E dJ24_next_57 (by rfl) ?_
      first | refine y_ald_n E dJ24_next_58 (by rfl) ?_ | refine y_aload_n E dJ24_next_58 (by rfl) ?_
      refine y_iload_n E dJ24_next_59 (by rfl) ?_
      refine y_dup_x1 E dJ24_next_60 rfl rfl ?_
      refine y_heap (by rw [show ([Value.int (iI k), .int (iI l), .int mc, .ref a].set 0 (.int (iI (k + 1)))) = [.int (iI (k + 1)), .int (iI l), .int mc, .ref a] from rfl]) ?_
      refine y_put E dJ24_next_61 fl_J24_13_J24 fw_J24_1 rfl (by rfl) (gset_s _ _ _) (Nat.le_of_ble_eq_true rfl) ?_
      have h3' := gs_n (G := gset G1 it (some τ, .inr (11, [.int (iI (k + 1)), .int (iI l), .int mc, .ref a]))) (a := it) (v := (some τ, .inr (11, [.int (iI (k + 1)), .int (iI k), .int mc, .ref a]))) (g_ne h3 h1 (by simp [aR])) (gs_n (g_ne h3 h1 (by simp [aR])) h3)
      refine y_aald E 5 rfl (by decide) dJ24_next_64 (h3') (by omega) ?_
      refine y_areturn E F rfl (Or.inl ⟨_, rfl⟩) dJ24_next_65 (by omega) (by omega) ⟨rfl, ?_⟩
      rw [gset_gset]
      rfl
    · exact absurd h39 (by omega)
  · exact absurd h (by omega)
theorem c_J24_init {G : yH} {it a e : Nat} {n : Int} {mc : Int32} {τ : Nat × Nat} {t' : yT} (h1 : G it = some (some τ, .inr (11, [.int (iI 0), .int (iI 0), .int (iI 0), .null]))) (h2 : G a = some (t', alE mc e n)) : Ct_J24_init Γ 1 0 0 [.ref it, .ref a] G (fun r G' => r = none ∧ G' = gset G it (some τ, itE a 0 (-1) mc)) noX := by
  unfold alE at h2
  have hne : a ≠ it := g_ne h2 h1 (by simp)
  refine y_start (lv0 := [some (.ref it), some (.ref a)]) (nm := "<init>") (own := RJ24) (by decide +kernel) rfl rfl (by first | exact Nat.le_of_ble_eq_true rfl | (simp only [yArgs, va_cat_rf]; simp [Value.category])) (by first | rfl | (simp only [yArgs, va_cat_rf]; simp [Value.category])) ?_
  intro Z Q E F
  first | refine y_ald_n E dJ24_init_0 (by rfl) ?_ | refine y_aload_n E dJ24_init_0 (by rfl) ?_
  first | refine y_ald_n E dJ24_init_1 (by rfl) ?_ | refine y_aload_n E dJ24_init_1 (by rfl) ?_
  refine y_putF E dJ24_init_2 fl_J24_1_J24 fw_J24_3 (fun q h => by cases h; rfl) (by first | rfl | exact nar_r _ _) (by first | rfl | exact fit_r _ _) (by assumption) (by decide) ?_
  first | refine y_ald_n E dJ24_init_5 (by rfl) ?_ | refine y_aload_n E dJ24_init_5 (by rfl) ?_
  refine y_objInit E dJ24_init_6 q444 q167 q168 (by decide) (Nat.le_of_ble_eq_true rfl) ?_
  first | refine y_ald_n E dJ24_init_9 (by rfl) ?_ | refine y_aload_n E dJ24_init_9 (by rfl) ?_
  refine y_iconst E dJ24_init_10 ?_
  refine y_put E dJ24_init_11 fl_J24_13_J24 fw_J24_1 rfl (by rfl) (gset_s _ _ _) (Nat.le_of_ble_eq_true rfl) ?_
  first | refine y_ald_n E dJ24_init_14 (by rfl) ?_ | refine y_aload_n E dJ24_init_14 (by rfl) ?_
  rw [gset_gset]
  first | refine y_ald_n E dJ24_init_15 (by rfl) ?_ | refine y_aload_n E dJ24_init_15 (by rfl) ?_
  refine y_get E dJ24_init_16 fl_J24_1_J24 (gset_s _ _ _) (by rfl) ?_
  refine y_get E dJ24_init_19 fl_J24_17_J2 (gs_n hne h2) (by rfl) ?_
  refine y_put E dJ24_init_22 fl_J24_22_J24 fw_J24_2 rfl (by rfl) (gset_s _ _ _) (Nat.le_of_ble_eq_true rfl) ?_
  rw [gset_gset]
  refine y_return E F rfl dJ24_init_25 (by omega) (by omega) ⟨rfl, rfl⟩
theorem c_J2_iterator {G : yH} {a e : Nat} {n : Int} {mc : Int32} {τ t' : Nat × Nat} (h2 : G a = some (some t', alE mc e n)) : Ct_J2_iterator Γ 2 1 4 [.ref a] G (fun r G' => ∃ it, G it = none ∧ r = some (.ref it) ∧ G' = gset G it (some τ, itE a 0 (-1) mc)) noX := by
  refine y_start (lv0 := [some (.ref a)]) (nm := "iterator") (own := RJ2) (by decide +kernel) rfl rfl (by first | exact Nat.le_of_ble_eq_true rfl | (simp only [yArgs, va_cat_rf]; simp [Value.category])) (by first | rfl | (simp only [yArgs, va_cat_rf]; simp [Value.category])) ?_
  intro Z Q E F
  refine y_new E τ dJ2_iterator_0 nw_J2_267 (by omega) (by omega) (fun it hit => ?_)
  refine y_dup E dJ2_iterator_3 rfl ?_
  first | refine y_ald_n E dJ2_iterator_4 (by rfl) ?_ | refine y_aload_n E dJ2_iterator_4 (by rfl) ?_
  refine y_callI E dJ2_iterator_5 lk_J2_269 (c_J24_init (it := it) (gset_s _ _ _) (gs_n (g_nn h2 hit) h2)) (by rfl) (by decide) (by omega) (by omega) rfl (Nat.le_of_ble_eq_true rfl) ?_ (fun _ _ _ h => h.elim)
  rintro v G1 ⟨rfl, rfl⟩
  refine y_areturn (r := some it) E F rfl (Or.inl ⟨_, rfl⟩) dJ2_iterator_8 (by omega) (by omega) ⟨it, hit, rfl, ?_⟩
  rw [gset_gset]
theorem c_J2_size {G : yH} {a e : Nat} {n : Int} {mc : Int32} {t' : yT} (h2 : G a = some (t', alE mc e n)) : Ct_J2_size Γ 1 0 0 [.ref a] G (fun r G' => r = some (.int (iI n)) ∧ G' = G) noX := by
  unfold alE at h2
  refine y_start (lv0 := [some (.ref a)]) (nm := "size") (own := RJ2) (by decide +kernel) rfl rfl (by first | exact Nat.le_of_ble_eq_true rfl | (simp only [yArgs, va_cat_rf]; simp [Value.category])) (by first | rfl | (simp only [yArgs, va_cat_rf]; simp [Value.category])) ?_
  intro Z Q E F
  first | refine y_ald_n E dJ2_size_0 (by rfl) ?_ | refine y_aload_n E dJ2_size_0 (by rfl) ?_
  refine y_get E dJ2_size_1 fl_J2_48_J2 (by assumption) (by rfl) ?_
  refine y_ireturn E F rfl rfl dJ2_size_4 (by omega) (by omega) ⟨rfl, rfl⟩
theorem c_J25_checkIndex {G : yH} {i n : Int} (h : 0 ≤ i ∧ i < n ∧ n ≤ 2147483647) {r : Option Nat} : Ct_J25_checkIndex Γ 1 0 0 [.int (iI i), .int (iI n), va_rf r] G (fun v G' => v = some (.int (iI i)) ∧ G' = G) noX := by
  cases r
  all_goals
    refine y_start (lv0 := [some (.int (iI i)), some (.int (iI n)), some _]) (nm := "checkIndex") (own := RJ25) (by decide +kernel) rfl rfl (by first | exact Nat.le_of_ble_eq_true rfl | (simp only [yArgs, va_cat_rf]; simp [Value.category])) (by first | rfl | (simp only [yArgs, va_cat_rf]; simp [Value.category])) ?_
    intro Z Q E F
    refine y_iload_n E dJ25_checkIndex_0 (by rfl) ?_
    refine y_if_lt (tgt := 9) E dJ25_checkIndex_1 (by decide) (by omega) (fun h1 => ?_) (fun h1 => ?_)
    · exact absurd h1 (by omega)
    · refine y_iload_n E dJ25_checkIndex_4 (by rfl) ?_
      refine y_iload_n E dJ25_checkIndex_5 (by rfl) ?_
      refine y_icmp_lt (tgt := 16) E dJ25_checkIndex_6 (by decide) (by omega) (by omega) (fun h6 => ?_) (fun h6 => ?_)
      · refine y_iload_n E dJ25_checkIndex_16 (by rfl) ?_
        refine y_ireturn E F rfl rfl dJ25_checkIndex_17 (by omega) (by omega) ⟨rfl, rfl⟩
      · exact absurd h6 (by omega)
theorem c_J12_checkIndex {G : yH} {i n : Int} (h : 0 ≤ i ∧ i < n ∧ n ≤ 2147483647) : Ct_J12_checkIndex Γ 2 0 0 [.int (iI i), .int (iI n)] G (fun v G' => v = some (.int (iI i)) ∧ G' = G) noX := by
  refine y_start (lv0 := [some (.int (iI i)), some (.int (iI n))]) (nm := "checkIndex") (own := RJ12) (by decide +kernel) rfl rfl (by first | exact Nat.le_of_ble_eq_true rfl | (simp only [yArgs, va_cat_rf]; simp [Value.category])) (by first | rfl | (simp only [yArgs, va_cat_rf]; simp [Value.category])) ?_
  intro Z Q E F
  refine y_iload_n E dJ12_checkIndex_0 (by rfl) ?_
  refine y_iload_n E dJ12_checkIndex_1 (by rfl) ?_
  refine y_null E dJ12_checkIndex_2 ?_
  refine y_callS E dJ12_checkIndex_3 lk_J12_105 (c_J25_checkIndex (r := none) h) (by rfl) (by decide) (by omega) (by omega) rfl (Nat.le_of_ble_eq_true rfl) ?_ (fun _ _ _ h => h.elim)
  rintro v G1 ⟨rfl, rfl⟩
  refine y_ireturn E F rfl rfl dJ12_checkIndex_6 (by omega) (by omega) ⟨rfl, rfl⟩
theorem c_J2_elementData {G : yH} {a e cap : Nat} {f : Nat → Option Nat} {i n : Int} {mc : Int32} {t' te : yT} (h2 : G a = some (t', alE mc e n)) (h3 : G e = some (te, aR 5 cap f)) (hi : 0 ≤ i ∧ i < cap ∧ cap ≤ 15) : Ct_J2_elementData Γ 1 0 0 [.ref a, .int (iI i)] G (fun r G' => r = some (va_rf (f i.toNat)) ∧ G' = G) noX := by
  unfold alE at h2
  refine y_start (lv0 := [some (.ref a), some (.int (iI i))]) (nm := "elementData") (own := RJ2) (by decide +kernel) rfl rfl (by first | exact Nat.le_of_ble_eq_true rfl | (simp only [yArgs, va_cat_rf]; simp [Value.category])) (by first | rfl | (simp only [yArgs, va_cat_rf]; simp [Value.category])) ?_
  intro Z Q E F
  first | refine y_ald_n E dJ2_elementData_0 (by rfl) ?_ | refine y_aload_n E dJ2_elementData_0 (by rfl) ?_
  refine y_get E dJ2_elementData_1 fl_J2_9_J2 (by assumption) (by rfl) ?_
  refine y_iload_n E dJ2_elementData_4 (by rfl) ?_
  refine y_aald E 5 rfl (by decide) dJ2_elementData_5 (by assumption) (by omega) ?_
  refine y_areturn E F rfl (Or.inl ⟨_, rfl⟩) dJ2_elementData_6 (by omega) (by omega) ⟨rfl, rfl⟩
theorem c_J2_get {G : yH} {τ : Nat × Nat} {a : Nat} {xs : List Nat} {i : Int} (h : isAL Γ G τ a xs) (hi : 0 ≤ i ∧ i < xs.length) : Ct_J2_get Γ 3 0 0 [.ref a, .int (iI i)] G (fun r G' => (∃ x, xs[i.toNat]? = some x ∧ r = some (.ref x)) ∧ G' = G) noX := by
  obtain ⟨mc, e, cap, f, te, h2, h3, h4, h5, h6, h7⟩ := h
  have hf := h6 i.toNat (by omega)
  have hx : ∃ x, xs[i.toNat]? = some x := ⟨xs[i.toNat]'(by omega), List.getElem?_eq_getElem _⟩
  obtain ⟨x, hx⟩ := hx
  rw [hx] at hf
  have h2' := h2
  unfold alE at h2
  refine y_start (lv0 := [some (.ref a), some (.int (iI i))]) (nm := "get") (own := RJ2) (by decide +kernel) rfl rfl (by first | exact Nat.le_of_ble_eq_true rfl | (simp only [yArgs, va_cat_rf]; simp [Value.category])) (by first | rfl | (simp only [yArgs, va_cat_rf]; simp [Value.category])) ?_
  intro Z Q E F
  refine y_iload_n E dJ2_get_0 (by rfl) ?_
  first | refine y_ald_n E dJ2_get_1 (by rfl) ?_ | refine y_aload_n E dJ2_get_1 (by rfl) ?_
  refine y_get E dJ2_get_2 fl_J2_48_J2 (by assumption) (by rfl) ?_
  refine y_callS E dJ2_get_5 lk_J2_118 (c_J12_checkIndex (i := i) (n := xs.length) (by omega)) (by rfl) (by decide) (by omega) (by omega) rfl (Nat.le_of_ble_eq_true rfl) ?_ (fun _ _ _ h => h.elim)
  rintro v G1 ⟨rfl, rfl⟩
  refine y_pop E dJ2_get_8 rfl ?_
  first | refine y_ald_n E dJ2_get_9 (by rfl) ?_ | refine y_aload_n E dJ2_get_9 (by rfl) ?_
  refine y_iload_n E dJ2_get_10 (by rfl) ?_
  refine y_callV E dJ2_get_11 lk_J2_123 (c_J2_elementData (i := i) h2' h3 (by omega)) (by rfl) h2' rfl (by decide) (by omega) (by omega) rfl (Nat.le_of_ble_eq_true rfl) ?_ (fun _ _ _ h => h.elim)
  rintro v G2 ⟨rfl, rfl⟩
  refine y_areturn E F rfl (Or.inl ⟨_, rfl⟩) dJ2_get_14 (by omega) (by omega) ⟨⟨x, hx, by rw [hf]; rfl⟩, rfl⟩
end AL
