/-! ===== LinkedList: clearing, iterators ===== -/
def litE (a : Nat) (lr nx : Option Nat) (k : Int) (mc : Int32) : yE := .inr (12, [va_rf lr, va_rf nx, .int (iI k), .int mc, .ref a])
section LL4
variable {Γ : yG}
set_option maxHeartbeats 4000000
theorem c_J4_clear {G : yH} {τ : Nat × Nat} {a : Nat} {xs : List (Option Nat)} (h : isLL G τ a xs) : Ct_J4_clear Γ 1 0 0 [.ref a] G (fun r G' => r = none ∧ isLL G' τ a [] ∧ gK (· = τ) G G') noX := by
  obtain ⟨mc, ns, h⟩ := h
  have hh := h
  have h1 := h.1
  have hlen := h.2.1
  refine y_start (lv0 := [some (.ref a), none, none]) (nm := "clear") (own := RJ4) (by decide +kernel) rfl rfl (by first | exact Nat.le_of_ble_eq_true rfl | (simp only [yArgs, va_cat_rf]; simp [Value.category])) (by first | rfl | (simp only [yArgs, va_cat_rf]; simp [Value.category])) ?_
  intro Z Q E F
  have loop : ∀ (d i : Nat) (G1 : yH) (lv2 : Option Value), i + d = ns.length → G1 a = some (some τ, llE mc xs.length ns.head? ns.getLast?) → (∀ j nd x, i ≤ j → ns[j]? = some nd → xs[j]? = some x → G1 nd = some (some τ, ndE x ns[j + 1]? (pvo ns j))) → gK (· = τ) G G1 → Y Γ Z 0 0 Q G1 5 [some (.ref a), some (va_rf ns[i]?), lv2] [] := by
    intro d
    induction d with
    | zero =>
      intro i G1 lv2 hi g1 g2 g3
      have e : ns[i]? = none := List.getElem?_eq_none (by omega)
      rw [e]
      unfold llE at g1
      first | refine y_ald_n E dJ4_clear_5 (by rfl) ?_ | refine y_aload_n E dJ4_clear_5 (by rfl) ?_
      refine y_ifnull_n (tgt := 34) E dJ4_clear_6 (by decide) ?_
      first | refine y_ald_n E dJ4_clear_34 (by rfl) ?_ | refine y_aload_n E dJ4_clear_34 (by rfl) ?_
      first | refine y_ald_n E dJ4_clear_35 (by rfl) ?_ | refine y_aload_n E dJ4_clear_35 (by rfl) ?_
      refine y_null E dJ4_clear_36 ?_
      refine y_dup_x1 E dJ4_clear_37 rfl rfl ?_
      refine y_put E dJ4_clear_38 fl_J4_27_J4 fw_J4_3 (by first | rfl | exact nar_r _ _) (by first | rfl | exact fit_r _ _) (by assumption) (Nat.le_of_ble_eq_true rfl) ?_
      refine y_put E dJ4_clear_41 fl_J4_18_J4 fw_J4_2 (by first | rfl | exact nar_r _ _) (by first | rfl | exact fit_r _ _) (gset_s _ _ _) (Nat.le_of_ble_eq_true rfl) ?_
      first | refine y_ald_n E dJ4_clear_44 (by rfl) ?_ | refine y_aload_n E dJ4_clear_44 (by rfl) ?_
      refine y_iconst E dJ4_clear_45 ?_
      refine y_put E dJ4_clear_46 fl_J4_7_J4 fw_J4_1 rfl (by rfl) (gset_s _ _ _) (Nat.le_of_ble_eq_true rfl) ?_
      first | refine y_ald_n E dJ4_clear_49 (by rfl) ?_ | refine y_aload_n E dJ4_clear_49 (by rfl) ?_
      refine y_dup E dJ4_clear_50 rfl ?_
      refine y_get E dJ4_clear_51 fl_J4_33_J4 (gset_s _ _ _) (by rfl) ?_
      refine y_iconst E dJ4_clear_54 ?_
      refine y_iaddG E dJ4_clear_55 ?_
      refine y_put E dJ4_clear_56 fl_J4_33_J4 fw_J4_0 rfl (by rfl) (gset_s _ _ _) (Nat.le_of_ble_eq_true rfl) ?_
      refine y_heap (by rw [gset_gset, gset_gset, gset_gset]) ?_
      refine y_return E F rfl dJ4_clear_59 (by omega) (by omega) ⟨rfl, ⟨mc + iI 1, [], gset_s _ _ _, rfl, List.nodup_nil, fun i nd x e => by simp at e⟩, gK_t g3 (gK_w _ g1 rfl)⟩
    | succ d ih =>
      intro i G1 lv2 hi g1 g2 g3
      have e : ns[i]? = some (ns[i]'(by omega)) := List.getElem?_eq_getElem _
      generalize ns[i]'(by omega) = q at e
      obtain ⟨x, hx, -⟩ := h.at e
      have hg := g2 i q x (Nat.le_refl _) e hx
      have hqa : q ≠ a := hh.nd_ne e
      rw [e]
      have hg' := hg
      unfold ndE at hg
      refine y_lv (lv' := [some (.ref a), some (.ref q), lv2]) rfl ?_
      first | refine y_ald_n E dJ4_clear_5 (by rfl) ?_ | refine y_aload_n E dJ4_clear_5 (by rfl) ?_
      refine y_ifnull_r E dJ4_clear_6 ?_
      first | refine y_ald_n E dJ4_clear_9 (by rfl) ?_ | refine y_aload_n E dJ4_clear_9 (by rfl) ?_
      refine y_get E dJ4_clear_10 fl_J4_36_J36 (by assumption) (by rfl) ?_
      first | refine y_ast_n (j := 2) E dJ4_clear_13 rfl (Nat.le_of_ble_eq_true rfl) ?_ | refine y_astore_n (j := 2) E dJ4_clear_13 rfl (Nat.le_of_ble_eq_true rfl) ?_ | refine y_astore_n (j := 2) (r := none) E dJ4_clear_13 rfl (Nat.le_of_ble_eq_true rfl) ?_
      simp only [lst1, lkill_rf, lkill_ref, lkill_int, lkill_no, lkill_null]
      first | refine y_ald_n E dJ4_clear_14 (by rfl) ?_ | refine y_aload_n E dJ4_clear_14 (by rfl) ?_
      refine y_null E dJ4_clear_15 ?_
      refine y_put E dJ4_clear_16 fl_J4_39_J36 fw_J36_0 (by first | rfl | exact nar_r _ _) (by first | rfl | exact fit_r _ _) (by assumption) (Nat.le_of_ble_eq_true rfl) ?_
      first | refine y_ald_n E dJ4_clear_19 (by rfl) ?_ | refine y_aload_n E dJ4_clear_19 (by rfl) ?_
      refine y_null E dJ4_clear_20 ?_
      refine y_put E dJ4_clear_21 fl_J4_36_J36 fw_J36_1 (by first | rfl | exact nar_r _ _) (by first | rfl | exact fit_r _ _) (gset_s _ _ _) (Nat.le_of_ble_eq_true rfl) ?_
      first | refine y_ald_n E dJ4_clear_24 (by rfl) ?_ | refine y_aload_n E dJ4_clear_24 (by rfl) ?_
      refine y_null E dJ4_clear_25 ?_
      refine y_put E dJ4_clear_26 fl_J4_30_J36 fw_J36_2 (by first | rfl | exact nar_r _ _) (by first | rfl | exact fit_r _ _) (gset_s _ _ _) (Nat.le_of_ble_eq_true rfl) ?_
      refine y_heap (by rw [gset_gset, gset_gset]) ?_
      first | refine y_ald_n E dJ4_clear_29 (by rfl) ?_ | refine y_aload_n E dJ4_clear_29 (by rfl) ?_
      first | refine y_ast_n (j := 1) E dJ4_clear_30 rfl (Nat.le_of_ble_eq_true rfl) ?_ | refine y_astore_n (j := 1) E dJ4_clear_30 rfl (Nat.le_of_ble_eq_true rfl) ?_ | refine y_astore_n (j := 1) (r := none) E dJ4_clear_30 rfl (Nat.le_of_ble_eq_true rfl) ?_
      simp only [lst1, lkill_rf, lkill_ref, lkill_int, lkill_no, lkill_null]
      refine y_goto (tgt := 5) E dJ4_clear_31 (by decide) ?_
      refine ih (i + 1) _ _ (by omega) (gs_n hqa.symm g1) (fun j nd y hj e1 e2 => ?_) (gK_t g3 (gK_w _ hg rfl))
      exact gs_n (hh.nd_inj e1 e (by omega)) (g2 j nd y (by omega) e1 e2)
  have h1' := h1
  unfold llE at h1
  first | refine y_ald_n E dJ4_clear_0 (by rfl) ?_ | refine y_aload_n E dJ4_clear_0 (by rfl) ?_
  refine y_get E dJ4_clear_1 fl_J4_18_J4 (by assumption) (by rfl) ?_
  first | refine y_ast_n (j := 1) E dJ4_clear_4 rfl (Nat.le_of_ble_eq_true rfl) ?_ | refine y_astore_n (j := 1) E dJ4_clear_4 rfl (Nat.le_of_ble_eq_true rfl) ?_ | refine y_astore_n (j := 1) (r := none) E dJ4_clear_4 rfl (Nat.le_of_ble_eq_true rfl) ?_
  simp only [lst1, lkill_rf, lkill_ref, lkill_int, lkill_no, lkill_null]
  have e0 : ns.head? = ns[0]? := List.head?_eq_getElem?
  refine y_lv (lv' := [some (.ref a), some (va_rf ns[0]?), none]) (by rw [← e0]) ?_
  exact loop ns.length 0 G none (by omega) h1' (fun j nd x _ e1 e2 => h.2.2.2 j nd x e1 e2) (gK_r _ _)
theorem c_J35_init {G : yH} {τ t' : Nat × Nat} {it a : Nat} {mc : Int32} {xs : List (Option Nat)} {ns : List Nat} (h1 : G it = some (some τ, .inr (12, [.null, .null, .int (iI 0), .int (iI 0), .null]))) (h : isLLn G t' a mc xs ns) (hl : xs.length ≤ 60000) : Ct_J35_init Γ 2 0 0 [.ref it, .ref a, .int (iI 0)] G (fun r G' => r = none ∧ G' = gset G it (some τ, litE a none ns.head? 0 mc)) noX := by
  have h2 := h.1
  have hlen := h.2.1
  have hne : a ≠ it := g_ne h2 h1 (by simp [llE])
  unfold llE at h2
  refine y_start (lv0 := [some (.ref it), some (.ref a), some (.int (iI 0))]) (nm := "<init>") (own := RJ35) (by decide +kernel) rfl rfl (by first | exact Nat.le_of_ble_eq_true rfl | (simp only [yArgs, va_cat_rf]; simp [Value.category])) (by first | rfl | (simp only [yArgs, va_cat_rf]; simp [Value.category])) ?_
  intro Z Q E F
  first | refine y_ald_n E dJ35_init_0 (by rfl) ?_ | refine y_aload_n E dJ35_init_0 (by rfl) ?_
  first | refine y_ald_n E dJ35_init_1 (by rfl) ?_ | refine y_aload_n E dJ35_init_1 (by rfl) ?_
  refine y_putF E dJ35_init_2 fl_J35_1_J35 fw_J35_4 (fun q h => by cases h; rfl) (by first | rfl | exact nar_r _ _) (by first | rfl | exact fit_r _ _) (by assumption) (by decide) ?_
  first | refine y_ald_n E dJ35_init_5 (by rfl) ?_ | refine y_aload_n E dJ35_init_5 (by rfl) ?_
  refine y_objInit E dJ35_init_6 q1128 q167 q168 (by decide) (Nat.le_of_ble_eq_true rfl) ?_
  first | refine y_ald_n E dJ35_init_9 (by rfl) ?_ | refine y_aload_n E dJ35_init_9 (by rfl) ?_
  first | refine y_ald_n E dJ35_init_10 (by rfl) ?_ | refine y_aload_n E dJ35_init_10 (by rfl) ?_
  refine y_get E dJ35_init_11 fl_J35_1_J35 (gset_s _ _ _) (by rfl) ?_
  refine y_get E dJ35_init_14 fl_J35_13_J4 (gs_n hne h2) (by rfl) ?_
  refine y_put E dJ35_init_17 fl_J35_19_J35 fw_J35_3 rfl (by rfl) (gset_s _ _ _) (Nat.le_of_ble_eq_true rfl) ?_
  rw [gset_gset]
  first | refine y_ald_n E dJ35_init_20 (by rfl) ?_ | refine y_aload_n E dJ35_init_20 (by rfl) ?_
  refine y_iload_n E dJ35_init_21 (by rfl) ?_
  first | refine y_ald_n E dJ35_init_22 (by rfl) ?_ | refine y_aload_n E dJ35_init_22 (by rfl) ?_
  refine y_get E dJ35_init_23 fl_J35_22_J4 (gs_n hne h2) (by rfl) ?_
  refine y_icmp_ne (tgt := 33) E dJ35_init_26 (by decide) (by omega) (by omega) (fun hb => ?_) (fun hb => ?_)
  · first | refine y_ald_n E dJ35_init_33 (by rfl) ?_ | refine y_aload_n E dJ35_init_33 (by rfl) ?_
    refine y_iload_n E dJ35_init_34 (by rfl) ?_
    have hll : isLLn (gset G it (some τ, Sum.inr (12, [Value.null, Value.null, Value.int (iI 0), Value.int mc, Value.ref a]))) t' a mc xs ns := by
      refine ⟨gs_n hne h.1, h.2.1, h.2.2.1, fun i nd x e1 e2 => ?_⟩
      have := h.2.2.2 i nd x e1 e2
      exact gs_n (g_ne this h1 (by simp [ndE])) this
    have hq : ns[0]? = some (ns[0]'(by omega)) := List.getElem?_eq_getElem _
    generalize ns[0]'(by omega) = q at hq
    refine y_callV E dJ35_init_35 lk_J35_25 (c_J4_node (i := 0) hll hq hl) (by rfl) hll.1 rfl (by decide) (by omega) (by omega) rfl (Nat.le_of_ble_eq_true rfl) ?_ (fun _ _ _ h => h.elim)
    rintro v G1 ⟨rfl, rfl⟩
    refine y_put E dJ35_init_38 fl_J35_29_J35 fw_J35_1 (by first | rfl | exact nar_r _ _) (by first | rfl | exact fit_r _ _) (gset_s _ _ _) (Nat.le_of_ble_eq_true rfl) ?_
    first | refine y_ald_n E dJ35_init_41 (by rfl) ?_ | refine y_aload_n E dJ35_init_41 (by rfl) ?_
    refine y_iload_n E dJ35_init_42 (by rfl) ?_
    refine y_put E dJ35_init_43 fl_J35_33_J35 fw_J35_2 rfl (by rfl) (gset_s _ _ _) (Nat.le_of_ble_eq_true rfl) ?_
    refine y_heap (by rw [gset_gset, gset_gset]) ?_
    refine y_return E F rfl dJ35_init_46 (by omega) (by omega) ⟨rfl, ?_⟩
    rw [List.head?_eq_getElem?, hq]
    rfl
  · refine y_null E dJ35_init_29 ?_
    refine y_goto (tgt := 38) E dJ35_init_30 (by decide) ?_
    refine y_put E dJ35_init_38 fl_J35_29_J35 fw_J35_1 (by first | rfl | exact nar_r _ _) (by first | rfl | exact fit_r _ _) (gset_s _ _ _) (Nat.le_of_ble_eq_true rfl) ?_
    first | refine y_ald_n E dJ35_init_41 (by rfl) ?_ | refine y_aload_n E dJ35_init_41 (by rfl) ?_
    refine y_iload_n E dJ35_init_42 (by rfl) ?_
    refine y_put E dJ35_init_43 fl_J35_33_J35 fw_J35_2 rfl (by rfl) (gset_s _ _ _) (Nat.le_of_ble_eq_true rfl) ?_
    refine y_heap (by rw [gset_gset, gset_gset]) ?_
    refine y_return E F rfl dJ35_init_46 (by omega) (by omega) ⟨rfl, ?_⟩
    have : ns = [] := List.eq_nil_of_length_eq_zero (by omega)
    subst this
    rfl
theorem c_J4_listIterator {G : yH} {τ t' : Nat × Nat} {a : Nat} {mc : Int32} {xs : List (Option Nat)} {ns : List Nat} (h : isLLn G t' a mc xs ns) (hl : xs.length ≤ 60000) : Ct_J4_listIterator Γ 3 1 5 [.ref a, .int (iI 0)] G (fun r G' => ∃ it, G it = none ∧ r = some (.ref it) ∧ G' = gset G it (some τ, litE a none ns.head? 0 mc)) noX := by
  refine y_start (lv0 := [some (.ref a), some (.int (iI 0))]) (nm := "listIterator") (own := RJ4) (by decide +kernel) rfl rfl (by first | exact Nat.le_of_ble_eq_true rfl | (simp only [yArgs, va_cat_rf]; simp [Value.category])) (by first | rfl | (simp only [yArgs, va_cat_rf]; simp [Value.category])) ?_
  intro Z Q E F
  first | refine y_ald_n E dJ4_listIterator_0 (by rfl) ?_ | refine y_aload_n E dJ4_listIterator_0 (by rfl) ?_
  refine y_iload_n E dJ4_listIterator_1 (by rfl) ?_
  refine y_callV E dJ4_listIterator_2 lk_J4_76 (c_J4_checkPositionIndex (i := 0) ⟨_, _, h⟩ (by omega)) (by rfl) h.1 rfl (by decide) (by omega) (by omega) rfl (Nat.le_of_ble_eq_true rfl) ?_ (fun _ _ _ h => h.elim)
  rintro v G1 ⟨rfl, rfl⟩
  refine y_new E τ dJ4_listIterator_5 nw_J4_150 (by omega) (by omega) (fun it hit => ?_)
  refine y_dup E dJ4_listIterator_8 rfl ?_
  first | refine y_ald_n E dJ4_listIterator_9 (by rfl) ?_ | refine y_aload_n E dJ4_listIterator_9 (by rfl) ?_
  refine y_iload_n E dJ4_listIterator_10 (by rfl) ?_
  have hll : ∀ v, isLLn (gset G1 it v) t' a mc xs ns := fun v => ⟨gs_n (g_nn h.1 hit) h.1, h.2.1, h.2.2.1, fun i nd x e1 e2 => gs_n (g_nn (h.2.2.2 i nd x e1 e2) hit) (h.2.2.2 i nd x e1 e2)⟩
  refine y_callI E dJ4_listIterator_11 lk_J4_152 (c_J35_init (τ := τ) (it := it) (gset_s _ _ _) (hll _) hl) (by rfl) (by decide) (by omega) (by omega) rfl (Nat.le_of_ble_eq_true rfl) ?_ (fun _ _ _ h => h.elim)
  rintro v G2 ⟨rfl, rfl⟩
  refine y_areturn (r := some it) E F rfl (Or.inl ⟨_, rfl⟩) dJ4_listIterator_14 (by omega) (by omega) ⟨it, hit, rfl, ?_⟩
  rw [gset_gset]
theorem c_J1_listIterator {G : yH} {τ t' : Nat × Nat} {a : Nat} {mc : Int32} {xs : List (Option Nat)} {ns : List Nat} (h : isLLn G t' a mc xs ns) (hl : xs.length ≤ 60000) : Ct_J1_listIterator Γ 4 1 5 [.ref a] G (fun r G' => ∃ it, G it = none ∧ r = some (.ref it) ∧ G' = gset G it (some τ, litE a none ns.head? 0 mc)) noX := by
  refine y_start (lv0 := [some (.ref a)]) (nm := "listIterator") (own := RJ1) (by decide +kernel) rfl rfl (by first | exact Nat.le_of_ble_eq_true rfl | (simp only [yArgs, va_cat_rf]; simp [Value.category])) (by first | rfl | (simp only [yArgs, va_cat_rf]; simp [Value.category])) ?_
  intro Z Q E F
  first | refine y_ald_n E dJ1_listIterator_0 (by rfl) ?_ | refine y_aload_n E dJ1_listIterator_0 (by rfl) ?_
  refine y_iconst E dJ1_listIterator_1 ?_
  refine y_callU E dJ1_listIterator_2 lk_J1_47_J4 (c_J4_listIterator (τ := τ) h hl) (by rfl) h.1 rfl (by decide) (by omega) (by omega) rfl (Nat.le_of_ble_eq_true rfl) ?_ (fun _ _ _ h => h.elim)
  rintro v G1 ⟨it, hit, rfl, rfl⟩
  exact y_areturn (r := some it) E F rfl (Or.inl ⟨_, rfl⟩) dJ1_listIterator_5 (by omega) (by omega) ⟨it, hit, rfl, rfl⟩
theorem c_J3_iterator {G : yH} {τ t' : Nat × Nat} {a : Nat} {mc : Int32} {xs : List (Option Nat)} {ns : List Nat} (h : isLLn G t' a mc xs ns) (hl : xs.length ≤ 60000) : Ct_J3_iterator Γ 5 1 5 [.ref a] G (fun r G' => ∃ it, G it = none ∧ r = some (.ref it) ∧ G' = gset G it (some τ, litE a none ns.head? 0 mc)) noX := by
  refine y_start (lv0 := [some (.ref a)]) (nm := "iterator") (own := RJ3) (by decide +kernel) rfl rfl (by first | exact Nat.le_of_ble_eq_true rfl | (simp only [yArgs, va_cat_rf]; simp [Value.category])) (by first | rfl | (simp only [yArgs, va_cat_rf]; simp [Value.category])) ?_
  intro Z Q E F
  first | refine y_ald_n E dJ3_iterator_0 (by rfl) ?_ | refine y_aload_n E dJ3_iterator_0 (by rfl) ?_
  refine y_callU E dJ3_iterator_1 lk_J3_65_J4 (c_J1_listIterator (τ := τ) h hl) (by rfl) h.1 rfl (by decide) (by omega) (by omega) rfl (Nat.le_of_ble_eq_true rfl) ?_ (fun _ _ _ h => h.elim)
  rintro v G1 ⟨it, hit, rfl, rfl⟩
  exact y_areturn (r := some it) E F rfl (Or.inl ⟨_, rfl⟩) dJ3_iterator_4 (by omega) (by omega) ⟨it, hit, rfl, rfl⟩
theorem c_J35_hasNext {G : yH} {it a : Nat} {k n : Int} {mc mc' : Int32} {t t' : yT} {lr nx fi la : Option Nat} (h1 : G it = some (t, litE a lr nx k mc)) (h2 : G a = some (t', llE mc' n fi la)) (hk : inR k) (hn : inR n) : Ct_J35_hasNext Γ 1 0 0 [.ref it] G (fun r G' => r = some (.int (iI (b2i (decide (k < n))))) ∧ G' = G) noX := by
  unfold litE at h1
  unfold llE at h2
  refine y_start (lv0 := [some (.ref it)]) (nm := "hasNext") (own := RJ35) (by decide +kernel) rfl rfl (by first | exact Nat.le_of_ble_eq_true rfl | (simp only [yArgs, va_cat_rf]; simp [Value.category])) (by first | rfl | (simp only [yArgs, va_cat_rf]; simp [Value.category])) ?_
  intro Z Q E F
  first | refine y_ald_n E dJ35_hasNext_0 (by rfl) ?_ | refine y_aload_n E dJ35_hasNext_0 (by rfl) ?_
  refine y_get E dJ35_hasNext_1 fl_J35_33_J35 (by assumption) (by rfl) ?_
  first | refine y_ald_n E dJ35_hasNext_4 (by rfl) ?_ | refine y_aload_n E dJ35_hasNext_4 (by rfl) ?_
  refine y_get E dJ35_hasNext_5 fl_J35_1_J35 (by assumption) (by rfl) ?_
  refine y_get E dJ35_hasNext_8 fl_J35_22_J4 (by assumption) (by rfl) ?_
  refine y_icmp_ge (tgt := 18) E dJ35_hasNext_11 (by decide) hk hn (fun h => ?_) (fun h => ?_)
  · refine y_iconst E dJ35_hasNext_18 ?_
    refine y_ireturn E F rfl (nar_z (by omega)) dJ35_hasNext_19 (by omega) (by omega) ⟨by rw [decide_eq_false (by omega)]; rfl, rfl⟩
  · refine y_iconst E dJ35_hasNext_14 ?_
    refine y_goto (tgt := 19) E dJ35_hasNext_15 (by decide) ?_
    refine y_ireturn E F rfl (nar_z (by omega)) dJ35_hasNext_19 (by omega) (by omega) ⟨by rw [decide_eq_true (by omega)]; rfl, rfl⟩
theorem c_J35_check {G : yH} {it a : Nat} {k n : Int} {mc : Int32} {t t' : yT} {lr nx fi la : Option Nat} (h1 : G it = some (t, litE a lr nx k mc)) (h2 : G a = some (t', llE mc n fi la)) : Ct_J35_checkForComodification Γ 1 0 0 [.ref it] G (fun r G' => r = none ∧ G' = G) noX := by
  unfold litE at h1
  unfold llE at h2
  refine y_start (lv0 := [some (.ref it)]) (nm := "checkForComodification") (own := RJ35) (by decide +kernel) rfl rfl (by first | exact Nat.le_of_ble_eq_true rfl | (simp only [yArgs, va_cat_rf]; simp [Value.category])) (by first | rfl | (simp only [yArgs, va_cat_rf]; simp [Value.category])) ?_
  intro Z Q E F
  first | refine y_ald_n E dJ35_checkForComodification_0 (by rfl) ?_ | refine y_aload_n E dJ35_checkForComodification_0 (by rfl) ?_
  refine y_get E dJ35_checkForComodification_1 fl_J35_1_J35 (by assumption) (by rfl) ?_
  refine y_get E dJ35_checkForComodification_4 fl_J35_13_J4 (by assumption) (by rfl) ?_
  first | refine y_ald_n E dJ35_checkForComodification_7 (by rfl) ?_ | refine y_aload_n E dJ35_checkForComodification_7 (by rfl) ?_
  refine y_get E dJ35_checkForComodification_8 fl_J35_19_J35 (by assumption) (by rfl) ?_
  refine y_icmp_same_eq (tgt := 22) E dJ35_checkForComodification_11 (by decide) ?_
  refine y_return E F rfl dJ35_checkForComodification_22 (by omega) (by omega) ⟨rfl, rfl⟩
theorem c_J35_next {G : yH} {it a nd : Nat} {k : Nat} {mc : Int32} {τ t' : Nat × Nat} {lr x : Option Nat} {xs : List (Option Nat)} {ns : List Nat} (h1 : G it = some (some τ, litE a lr ns[k]? k mc)) (h : isLLn G t' a mc xs ns) (hk : ns[k]? = some nd) (hx : xs[k]? = some x) (hl : xs.length ≤ 60000) : Ct_J35_next Γ 2 0 0 [.ref it] G (fun r G' => r = some (va_rf x) ∧ G' = gset G it (some τ, litE a (some nd) ns[k + 1]? ((k + 1 : Nat) : Int) mc)) noX := by
  have hlt : k < xs.length := (List.getElem?_eq_some_iff.mp hx).1
  have hg := h.2.2.2 k nd x hk hx
  have hni : nd ≠ it := g_ne hg h1 (by simp [ndE, litE])
  refine y_start (lv0 := [some (.ref it)]) (nm := "next") (own := RJ35) (by decide +kernel) rfl rfl (by first | exact Nat.le_of_ble_eq_true rfl | (simp only [yArgs, va_cat_rf]; simp [Value.category])) (by first | rfl | (simp only [yArgs, va_cat_rf]; simp [Value.category])) ?_
  intro Z Q E F
  first | refine y_ald_n E dJ35_next_0 (by rfl) ?_ | refine y_aload_n E dJ35_next_0 (by rfl) ?_
  refine y_callV E dJ35_next_1 lk_J35_36 (c_J35_check h1 h.1) (by rfl) h1 rfl (by decide) (by omega) (by omega) rfl (Nat.le_of_ble_eq_true rfl) ?_ (fun _ _ _ h => h.elim)
  rintro v G1 ⟨rfl, rfl⟩
  first | refine y_ald_n E dJ35_next_4 (by rfl) ?_ | refine y_aload_n E dJ35_next_4 (by rfl) ?_
  refine y_callV E dJ35_next_5 lk_J35_39 (c_J35_hasNext h1 h.1 (by omega) (by omega)) (by rfl) h1 rfl (by decide) (by omega) (by omega) rfl (Nat.le_of_ble_eq_true rfl) ?_ (fun _ _ _ h => h.elim)
  rintro v G1 ⟨rfl, rfl⟩
  refine y_ifb_ne (tgt := 19) E dJ35_next_8 (by decide) (fun h8 => ?_) (fun h8 => ?_)
  · rw [hk] at h1
    unfold litE at h1
    unfold ndE at hg
    first | refine y_ald_n E dJ35_next_19 (by rfl) ?_ | refine y_aload_n E dJ35_next_19 (by rfl) ?_
    first | refine y_ald_n E dJ35_next_20 (by rfl) ?_ | refine y_aload_n E dJ35_next_20 (by rfl) ?_
    refine y_get E dJ35_next_21 fl_J35_29_J35 (by assumption) (by rfl) ?_
    refine y_put E dJ35_next_24 fl_J35_46_J35 fw_J35_0 (v := .ref nd) rfl (by rfl) h1 (Nat.le_of_ble_eq_true rfl) ?_
    first | refine y_ald_n E dJ35_next_27 (by rfl) ?_ | refine y_aload_n E dJ35_next_27 (by rfl) ?_
    first | refine y_ald_n E dJ35_next_28 (by rfl) ?_ | refine y_aload_n E dJ35_next_28 (by rfl) ?_
    refine y_get E dJ35_next_29 fl_J35_29_J35 (gset_s _ _ _) (v := .ref nd) rfl ?_
    refine y_get E dJ35_next_32 fl_J35_49_J36 (gs_n hni hg) (by rfl) ?_
    refine y_put E dJ35_next_35 fl_J35_29_J35 fw_J35_1 (by first | rfl | exact nar_r _ _) (by first | rfl | exact fit_r _ _) (gset_s _ _ _) (Nat.le_of_ble_eq_true rfl) ?_
    first | refine y_ald_n E dJ35_next_38 (by rfl) ?_ | refine y_aload_n E dJ35_next_38 (by rfl) ?_
    refine y_dup E dJ35_next_39 rfl ?_
    refine y_get E dJ35_next_40 fl_J35_33_J35 (gset_s _ _ _) (by rfl) ?_
    refine y_iconst E dJ35_next_43 ?_
    refine y_iadd E dJ35_next_44 ?_
    refine y_put E dJ35_next_45 fl_J35_33_J35 fw_J35_2 rfl (by rfl) (gset_s _ _ _) (Nat.le_of_ble_eq_true rfl) ?_
    refine y_heap (by rw [gset_gset, gset_gset]) ?_
    first | refine y_ald_n E dJ35_next_48 (by rfl) ?_ | refine y_aload_n E dJ35_next_48 (by rfl) ?_
    refine y_get E dJ35_next_49 fl_J35_46_J35 (gset_s _ _ _) (v := .ref nd) rfl ?_
    refine y_get E dJ35_next_52 fl_J35_52_J36 (gs_n hni hg) (by rfl) ?_
    refine y_areturn E F rfl (Or.inl ⟨_, rfl⟩) dJ35_next_55 (by omega) (by omega) ⟨rfl, ?_⟩
    rfl
  · exact absurd h8 (by simp; omega)
end LL4
