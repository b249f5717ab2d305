/-! ===== LinkedList: removing, reading ===== -/
theorem isLLn.erase {G G' : yH} {τ : Nat × Nat} {a : Nat} {mc mc' : Int32} {xs : List (Option Nat)} {ns : List Nat} (h : isLLn G τ a mc xs ns) {k : Nat} (hk : k < ns.length) (ha : G' a = some (some τ, llE mc' (ns.length - 1 : Int) (ns.eraseIdx k).head? (ns.eraseIdx k).getLast?)) (hp : ∀ i nd x, i + 1 = k → ns[i]? = some nd → xs[i]? = some x → G' nd = some (some τ, ndE x ns[k + 1]? (pvo ns i))) (hn : ∀ nd x, ns[k + 1]? = some nd → xs[k + 1]? = some x → G' nd = some (some τ, ndE x ns[k + 2]? (pvo ns k))) (ho : ∀ i nd, i + 1 ≠ k → i ≠ k → i ≠ k + 1 → ns[i]? = some nd → G' nd = G nd) : isLLn G' τ a mc' (xs.eraseIdx k) (ns.eraseIdx k) := by
  obtain ⟨h1, h2, h3, h4⟩ := h
  have hl1 : (ns.eraseIdx k).length = ns.length - 1 := List.length_eraseIdx_of_lt hk
  have hl2 : (xs.eraseIdx k).length = xs.length - 1 := List.length_eraseIdx_of_lt (by omega)
  refine ⟨?_, by omega, h3.sublist (List.eraseIdx_sublist ns k), ?_⟩
  · rw [ha]
    congr 3
    rw [hl2]
    congr 2
    omega
  · intro i nd x hi hx
    rw [List.getElem?_eraseIdx] at hi hx
    have e1 : pvo (ns.eraseIdx k) i = if i = 0 then none else (if i - 1 < k then ns[i - 1]? else ns[i]?) := by
      unfold pvo
      by_cases h0 : i = 0
      · simp [h0]
      · rw [if_neg h0, if_neg h0, List.getElem?_eraseIdx]
        split
        · rfl
        · congr 1; omega
    have e2 : (ns.eraseIdx k)[i + 1]? = if i + 1 < k then ns[i + 1]? else ns[i + 2]? := by
      rw [List.getElem?_eraseIdx]
    rw [e1, e2]
    by_cases hik : i < k
    · rw [if_pos hik] at hi hx
      by_cases hik2 : i + 1 = k
      · rw [hp i nd x hik2 hi hx, if_neg (by omega : ¬ i + 1 < k), hik2.symm]
        congr 3
        unfold pvo
        by_cases h0 : i = 0
        · simp [h0]
        · rw [if_neg h0, if_neg h0, if_pos (by omega)]
      · rw [ho i nd hik2 (by omega) (by omega) hi, h4 i nd x hi hx, if_pos (by omega : i + 1 < k)]
        congr 3
        unfold pvo
        by_cases h0 : i = 0
        · simp [h0]
        · rw [if_neg h0, if_neg h0, if_pos (by omega)]
    · rw [if_neg hik] at hi hx
      rw [if_neg (by omega : ¬ i + 1 < k)]
      by_cases hik2 : i = k
      · subst hik2
        rw [hn nd x hi hx]
        congr 3
        unfold pvo
        by_cases h0 : i = 0
        · simp [h0]
        · rw [if_neg h0, if_neg h0, if_pos (by omega)]
      · rw [ho (i + 1) nd (by omega) (by omega) (by omega) hi, h4 (i + 1) nd x hi hx]
        congr 3
        unfold pvo
        rw [if_neg (by omega), if_neg (by omega), if_neg (by omega)]
        congr 1
theorem isLLn.nd_inj {G : yH} {τ : Nat × Nat} {a : Nat} {mc : Int32} {xs : List (Option Nat)} {ns : List Nat} (h : isLLn G τ a mc xs ns) {i j nd nd' : Nat} (hi : ns[i]? = some nd) (hj : ns[j]? = some nd') (hij : i ≠ j) : nd ≠ nd' := by
  intro e
  subst e
  exact hij ((List.getElem?_inj (i := i) (j := j) (List.getElem?_eq_some_iff.mp hi).1 h.2.2.1).mp (by rw [hi, hj]))
theorem isLLn.at {G : yH} {τ : Nat × Nat} {a : Nat} {mc : Int32} {xs : List (Option Nat)} {ns : List Nat} (h : isLLn G τ a mc xs ns) {i nd : Nat} (hi : ns[i]? = some nd) : ∃ x, xs[i]? = some x ∧ G nd = some (some τ, ndE x ns[i + 1]? (pvo ns i)) := by
  have hlt : i < xs.length := by rw [← h.2.1]; exact (List.getElem?_eq_some_iff.mp hi).1
  exact ⟨xs[i], List.getElem?_eq_getElem hlt, h.2.2.2 i nd _ hi (List.getElem?_eq_getElem hlt)⟩
section LL2
variable {Γ : yG}
set_option maxHeartbeats 4000000
theorem c_J4_unlinkFirst {G : yH} {τ : Nat × Nat} {a q : Nat} {mc : Int32} {x : Option Nat} {xs : List (Option Nat)} {ns : List Nat} (h : isLLn G τ a mc (x :: xs) (q :: ns)) : Ct_J4_unlinkFirst Γ 1 0 0 [.ref a, .ref q] G (fun r G' => r = some (va_rf x) ∧ isLLn G' τ a (mc + iI 1) xs ns ∧ gK (· = τ) G G') noX := by
  have hh := h
  obtain ⟨h1, h2, h3, h4⟩ := h
  unfold llE at h1
  have hq := h4 0 q x rfl rfl
  have hqa : q ≠ a := hh.nd_ne (i := 0) rfl
  unfold ndE at hq
  have hlen : ns.length = xs.length := by simpa using h2
  have hP := gK_w (P := (· = τ)) (some τ, (.inr (10, [.null, .null, va_rf (pvo (q :: ns) 0)]) : yE)) hq rfl
  refine y_start (lv0 := [some (.ref a), some (.ref q), none, none]) (nm := "unlinkFirst") (own := RJ4) (by decide +kernel) rfl rfl (by first | exact Nat.le_of_ble_eq_true rfl | (simp only [yArgs, va_cat_rf]; simp [Value.category])) (by first | rfl | (simp only [yArgs, va_cat_rf]; simp [Value.category])) ?_
  intro Z Q E F
  first | refine y_ald_n E dJ4_unlinkFirst_0 (by rfl) ?_ | refine y_aload_n E dJ4_unlinkFirst_0 (by rfl) ?_
  refine y_get E dJ4_unlinkFirst_1 fl_J4_39_J36 (by assumption) (by rfl) ?_
  first | refine y_ast_n (j := 2) E dJ4_unlinkFirst_4 rfl (Nat.le_of_ble_eq_true rfl) ?_ | refine y_astore_n (j := 2) E dJ4_unlinkFirst_4 rfl (Nat.le_of_ble_eq_true rfl) ?_ | refine y_astore_n (j := 2) (r := none) E dJ4_unlinkFirst_4 rfl (Nat.le_of_ble_eq_true rfl) ?_
  simp only [lst1, lkill_rf, lkill_ref, lkill_int, lkill_no, lkill_null]
  first | refine y_ald_n E dJ4_unlinkFirst_5 (by rfl) ?_ | refine y_aload_n E dJ4_unlinkFirst_5 (by rfl) ?_
  refine y_get E dJ4_unlinkFirst_6 fl_J4_36_J36 (by assumption) (by rfl) ?_
  first | refine y_ast_n (j := 3) E dJ4_unlinkFirst_9 rfl (Nat.le_of_ble_eq_true rfl) ?_ | refine y_astore_n (j := 3) E dJ4_unlinkFirst_9 rfl (Nat.le_of_ble_eq_true rfl) ?_ | refine y_astore_n (j := 3) (r := none) E dJ4_unlinkFirst_9 rfl (Nat.le_of_ble_eq_true rfl) ?_
  simp only [lst1, lkill_rf, lkill_ref, lkill_int, lkill_no, lkill_null]
  first | refine y_ald_n E dJ4_unlinkFirst_10 (by rfl) ?_ | refine y_aload_n E dJ4_unlinkFirst_10 (by rfl) ?_
  refine y_null E dJ4_unlinkFirst_11 ?_
  refine y_put E dJ4_unlinkFirst_12 fl_J4_39_J36 fw_J36_0 (by first | rfl | exact nar_r _ _) (by first | rfl | exact fit_r _ _) (by assumption) (Nat.le_of_ble_eq_true rfl) ?_
  first | refine y_ald_n E dJ4_unlinkFirst_15 (by rfl) ?_ | refine y_aload_n E dJ4_unlinkFirst_15 (by rfl) ?_
  refine y_null E dJ4_unlinkFirst_16 ?_
  refine y_put E dJ4_unlinkFirst_17 fl_J4_36_J36 fw_J36_1 (by first | rfl | exact nar_r _ _) (by first | rfl | exact fit_r _ _) (gset_s _ _ _) (Nat.le_of_ble_eq_true rfl) ?_
  refine y_heap (gset_gset _ _ _ _) ?_
  have e0 : (q :: ns)[0 + 1]? = ns[0]? := rfl
  cases hns : ns with
  | nil =>
    subst hns
    first | refine y_ald_n E dJ4_unlinkFirst_20 (by rfl) ?_ | refine y_aload_n E dJ4_unlinkFirst_20 (by rfl) ?_
    first | refine y_ald_n E dJ4_unlinkFirst_21 (by rfl) ?_ | refine y_aload_n E dJ4_unlinkFirst_21 (by rfl) ?_
    refine y_put E dJ4_unlinkFirst_22 fl_J4_18_J4 fw_J4_2 (by first | rfl | exact nar_r _ _) (by first | rfl | exact fit_r _ _) (gs_n hqa.symm h1) (Nat.le_of_ble_eq_true rfl) ?_
    first | refine y_ald_n E dJ4_unlinkFirst_25 (by rfl) ?_ | refine y_aload_n E dJ4_unlinkFirst_25 (by rfl) ?_
    refine y_ifnonnull_n E dJ4_unlinkFirst_26 ?_
    first | refine y_ald_n E dJ4_unlinkFirst_29 (by rfl) ?_ | refine y_aload_n E dJ4_unlinkFirst_29 (by rfl) ?_
    refine y_null E dJ4_unlinkFirst_30 ?_
    refine y_put E dJ4_unlinkFirst_31 fl_J4_27_J4 fw_J4_3 (by first | rfl | exact nar_r _ _) (by first | rfl | exact fit_r _ _) (gset_s _ _ _) (Nat.le_of_ble_eq_true rfl) ?_
    refine y_heap (gset_gset _ _ _ _) ?_
    refine y_goto (tgt := 42) E dJ4_unlinkFirst_34 (by decide) ?_
    first | refine y_ald_n E dJ4_unlinkFirst_42 (by rfl) ?_ | refine y_aload_n E dJ4_unlinkFirst_42 (by rfl) ?_
    refine y_dup E dJ4_unlinkFirst_43 rfl ?_
    refine y_get E dJ4_unlinkFirst_44 fl_J4_7_J4 (gset_s _ _ _) (by rfl) ?_
    refine y_iconst E dJ4_unlinkFirst_47 ?_
    refine y_isub E dJ4_unlinkFirst_48 ?_
    refine y_put E dJ4_unlinkFirst_49 fl_J4_7_J4 fw_J4_1 rfl (by rfl) (gset_s _ _ _) (Nat.le_of_ble_eq_true rfl) ?_
    first | refine y_ald_n E dJ4_unlinkFirst_52 (by rfl) ?_ | refine y_aload_n E dJ4_unlinkFirst_52 (by rfl) ?_
    refine y_dup E dJ4_unlinkFirst_53 rfl ?_
    refine y_get E dJ4_unlinkFirst_54 fl_J4_33_J4 (gset_s _ _ _) (by rfl) ?_
    refine y_iconst E dJ4_unlinkFirst_57 ?_
    refine y_iaddG E dJ4_unlinkFirst_58 ?_
    refine y_put E dJ4_unlinkFirst_59 fl_J4_33_J4 fw_J4_0 rfl (by rfl) (gset_s _ _ _) (Nat.le_of_ble_eq_true rfl) ?_
    refine y_heap (by rw [gset_gset, gset_gset]) ?_
    first | refine y_ald_n E dJ4_unlinkFirst_62 (by rfl) ?_ | refine y_aload_n E dJ4_unlinkFirst_62 (by rfl) ?_
    refine y_areturn E F rfl (Or.inl ⟨_, rfl⟩) dJ4_unlinkFirst_63 (by omega) (by omega) ⟨rfl, ?_, gK_t hP (gK_w _ (gs_n hqa.symm h1) rfl)⟩
    have hx0 : xs = [] := List.eq_nil_of_length_eq_zero (by simpa using hlen.symm)
    subst hx0
    refine hh.erase (k := 0) (by simp) ?_ (fun i nd x e => by omega) (fun nd x e => by simp at e) (fun i nd h1 h2 h3 e => ?_)
    · rw [gset_s]
      rfl
    · exfalso
      have := (List.getElem?_eq_some_iff.mp e).1
      simp at this
      omega
  | cons n1 nr =>
    subst hns
    have hn1 : (q :: n1 :: nr)[1]? = some n1 := rfl
    obtain ⟨x1, hx1, hg1⟩ := hh.at hn1
    have hn1a : n1 ≠ a := hh.nd_ne hn1
    have hn1q : n1 ≠ q := hh.nd_inj hn1 (i := 1) (j := 0) rfl (by omega)
    have hg1' := hg1
    unfold ndE at hg1
    refine y_lv (lv' := [some (.ref a), some (.ref q), some (va_rf x), some (.ref n1)]) rfl ?_
    first | refine y_ald_n E dJ4_unlinkFirst_20 (by rfl) ?_ | refine y_aload_n E dJ4_unlinkFirst_20 (by rfl) ?_
    first | refine y_ald_n E dJ4_unlinkFirst_21 (by rfl) ?_ | refine y_aload_n E dJ4_unlinkFirst_21 (by rfl) ?_
    refine y_put E dJ4_unlinkFirst_22 fl_J4_18_J4 fw_J4_2 (by first | rfl | exact nar_r _ _) (by first | rfl | exact fit_r _ _) (gs_n hqa.symm h1) (Nat.le_of_ble_eq_true rfl) ?_
    first | refine y_ald_n E dJ4_unlinkFirst_25 (by rfl) ?_ | refine y_aload_n E dJ4_unlinkFirst_25 (by rfl) ?_
    refine y_ifnonnull_r (tgt := 37) E dJ4_unlinkFirst_26 (by decide) ?_
    first | refine y_ald_n E dJ4_unlinkFirst_37 (by rfl) ?_ | refine y_aload_n E dJ4_unlinkFirst_37 (by rfl) ?_
    refine y_null E dJ4_unlinkFirst_38 ?_
    refine y_put E dJ4_unlinkFirst_39 fl_J4_30_J36 fw_J36_2 (by first | rfl | exact nar_r _ _) (by first | rfl | exact fit_r _ _) (gs_n hn1a (gs_n hn1q hg1)) (Nat.le_of_ble_eq_true rfl) ?_
    have hal := hn1a.symm
    refine y_heap (gset_comm _ _ _ hal) ?_
    first | refine y_ald_n E dJ4_unlinkFirst_42 (by rfl) ?_ | refine y_aload_n E dJ4_unlinkFirst_42 (by rfl) ?_
    refine y_dup E dJ4_unlinkFirst_43 rfl ?_
    refine y_get E dJ4_unlinkFirst_44 fl_J4_7_J4 (gset_s _ _ _) (by rfl) ?_
    refine y_iconst E dJ4_unlinkFirst_47 ?_
    refine y_isub E dJ4_unlinkFirst_48 ?_
    refine y_put E dJ4_unlinkFirst_49 fl_J4_7_J4 fw_J4_1 rfl (by rfl) (gset_s _ _ _) (Nat.le_of_ble_eq_true rfl) ?_
    first | refine y_ald_n E dJ4_unlinkFirst_52 (by rfl) ?_ | refine y_aload_n E dJ4_unlinkFirst_52 (by rfl) ?_
    refine y_dup E dJ4_unlinkFirst_53 rfl ?_
    refine y_get E dJ4_unlinkFirst_54 fl_J4_33_J4 (gset_s _ _ _) (by rfl) ?_
    refine y_iconst E dJ4_unlinkFirst_57 ?_
    refine y_iaddG E dJ4_unlinkFirst_58 ?_
    refine y_put E dJ4_unlinkFirst_59 fl_J4_33_J4 fw_J4_0 rfl (by rfl) (gset_s _ _ _) (Nat.le_of_ble_eq_true rfl) ?_
    refine y_heap (by rw [gset_gset, gset_gset]) ?_
    first | refine y_ald_n E dJ4_unlinkFirst_62 (by rfl) ?_ | refine y_aload_n E dJ4_unlinkFirst_62 (by rfl) ?_
    refine y_areturn E F rfl (Or.inl ⟨_, rfl⟩) dJ4_unlinkFirst_63 (by omega) (by omega) ⟨rfl, ?_, gK_t hP (gK_t (gK_w _ (gs_n hn1q hg1) rfl) (gK_w _ (gs_n hal (gs_n hqa.symm h1)) rfl))⟩
    refine hh.erase (k := 0) (by simp) ?_ (fun i nd x e => by omega) (fun nd x e1 e2 => ?_) (fun i nd h1 h2 h3 e => ?_)
    · rw [gset_s]
      simp [llE, hlen, va_rf]
    · simp only [Nat.zero_add, hn1, Option.some.injEq] at e1
      subst e1
      rw [show (0 : Nat) + 1 = 1 from rfl, hx1] at e2
      cases e2
      refine gs_n hn1a ?_
      rw [gset_s]
      rfl
    · have ha1 : nd ≠ a := hh.nd_ne e
      have ha2 : nd ≠ q := hh.nd_inj e (j := 0) rfl h2
      have ha3 : nd ≠ n1 := hh.nd_inj e hn1 h3
      rw [gset_n _ ha1, gset_n _ ha3, gset_n _ ha2]
theorem c_J4_removeFirst {G : yH} {τ : Nat × Nat} {a : Nat} {x : Option Nat} {xs : List (Option Nat)} (h : isLL G τ a (x :: xs)) : Ct_J4_removeFirst Γ 2 0 0 [.ref a] G (fun r G' => r = some (va_rf x) ∧ isLL G' τ a xs ∧ gK (· = τ) G G') noX := by
  obtain ⟨mc, ns, h⟩ := h
  cases ns with
  | nil => have := h.2.1; simp at this
  | cons q ns =>
    have h1 := h.1
    unfold llE at h1
    refine y_start (lv0 := [some (.ref a), none]) (nm := "removeFirst") (own := RJ4) (by decide +kernel) rfl rfl (by first | exact Nat.le_of_ble_eq_true rfl | (simp only [yArgs, va_cat_rf]; simp [Value.category])) (by first | rfl | (simp only [yArgs, va_cat_rf]; simp [Value.category])) ?_
    intro Z Q E F
    first | refine y_ald_n E dJ4_removeFirst_0 (by rfl) ?_ | refine y_aload_n E dJ4_removeFirst_0 (by rfl) ?_
    refine y_get E dJ4_removeFirst_1 fl_J4_18_J4 (by assumption) (by rfl) ?_
    refine y_top (v' := .ref q) rfl ?_
    first | refine y_ast_n (j := 1) E dJ4_removeFirst_4 rfl (Nat.le_of_ble_eq_true rfl) ?_ | refine y_astore_n (j := 1) E dJ4_removeFirst_4 rfl (Nat.le_of_ble_eq_true rfl) ?_ | refine y_astore_n (j := 1) (r := none) E dJ4_removeFirst_4 rfl (Nat.le_of_ble_eq_true rfl) ?_
    first | refine y_ald_n E dJ4_removeFirst_5 (by rfl) ?_ | refine y_aload_n E dJ4_removeFirst_5 (by rfl) ?_
    refine y_ifnonnull_r (tgt := 17) E dJ4_removeFirst_6 (by decide) ?_
    first | refine y_ald_n E dJ4_removeFirst_17 (by rfl) ?_ | refine y_aload_n E dJ4_removeFirst_17 (by rfl) ?_
    first | refine y_ald_n E dJ4_removeFirst_18 (by rfl) ?_ | refine y_aload_n E dJ4_removeFirst_18 (by rfl) ?_
    refine y_callV E dJ4_removeFirst_19 lk_J4_46 (c_J4_unlinkFirst h) (by rfl) h1 rfl (by decide) (by omega) (by omega) rfl (Nat.le_of_ble_eq_true rfl) ?_ (fun _ _ _ h => h.elim)
    rintro v G1 ⟨rfl, g1, g2⟩
    refine y_areturn E F rfl (Or.inl ⟨_, rfl⟩) dJ4_removeFirst_22 (by omega) (by omega) ⟨rfl, ⟨_, _, g1⟩, g2⟩
theorem c_J4_getLast {G : yH} {τ : Nat × Nat} {a : Nat} {x : Option Nat} {xs : List (Option Nat)} (h : isLL G τ a xs) (hx : xs.getLast? = some x) : Ct_J4_getLast Γ 1 0 0 [.ref a] G (fun r G' => r = some (va_rf x) ∧ G' = G) noX := by
  obtain ⟨mc, ns, h⟩ := h
  have h1 := h.1
  have hlt : 0 < xs.length := by
    cases xs with
    | nil => cases hx
    | cons b r => simp
  have hn : ns.getLast? = some (ns[ns.length - 1]'(by have := h.2.1; omega)) := (List.getLast?_eq_getElem?).trans (List.getElem?_eq_getElem _)
  obtain ⟨y, hy1, hy2⟩ := h.at (by rw [← List.getLast?_eq_getElem?]; exact hn)
  rw [h.2.1, ← List.getLast?_eq_getElem?, hx] at hy1
  cases hy1
  rw [hn] at h1
  generalize ns[ns.length - 1]'(by have := h.2.1; omega) = q at h1 hy2
  unfold llE at h1
  unfold ndE at hy2
  refine y_start (lv0 := [some (.ref a), none]) (nm := "getLast") (own := RJ4) (by decide +kernel) rfl rfl (by first | exact Nat.le_of_ble_eq_true rfl | (simp only [yArgs, va_cat_rf]; simp [Value.category])) (by first | rfl | (simp only [yArgs, va_cat_rf]; simp [Value.category])) ?_
  intro Z Q E F
  first | refine y_ald_n E dJ4_getLast_0 (by rfl) ?_ | refine y_aload_n E dJ4_getLast_0 (by rfl) ?_
  refine y_get E dJ4_getLast_1 fl_J4_27_J4 (by assumption) (by rfl) ?_
  refine y_top (v' := .ref q) rfl ?_
  first | refine y_ast_n (j := 1) E dJ4_getLast_4 rfl (Nat.le_of_ble_eq_true rfl) ?_ | refine y_astore_n (j := 1) E dJ4_getLast_4 rfl (Nat.le_of_ble_eq_true rfl) ?_ | refine y_astore_n (j := 1) (r := none) E dJ4_getLast_4 rfl (Nat.le_of_ble_eq_true rfl) ?_
  first | refine y_ald_n E dJ4_getLast_5 (by rfl) ?_ | refine y_aload_n E dJ4_getLast_5 (by rfl) ?_
  refine y_ifnonnull_r (tgt := 17) E dJ4_getLast_6 (by decide) ?_
  first | refine y_ald_n E dJ4_getLast_17 (by rfl) ?_ | refine y_aload_n E dJ4_getLast_17 (by rfl) ?_
  refine y_get E dJ4_getLast_18 fl_J4_39_J36 (by assumption) (by rfl) ?_
  refine y_areturn E F rfl (Or.inl ⟨_, rfl⟩) dJ4_getLast_21 (by omega) (by omega) ⟨rfl, rfl⟩
theorem c_J4_size {G : yH} {τ : Nat × Nat} {a : Nat} {xs : List (Option Nat)} (h : isLL G τ a xs) : Ct_J4_size Γ 1 0 0 [.ref a] G (fun r G' => r = some (.int (iI xs.length)) ∧ G' = G) noX := by
  obtain ⟨mc, ns, h⟩ := h
  have h1 := h.1
  unfold llE at h1
  refine y_start (lv0 := [some (.ref a)]) (nm := "size") (own := RJ4) (by decide +kernel) rfl rfl (by first | exact Nat.le_of_ble_eq_true rfl | (simp only [yArgs, va_cat_rf]; simp [Value.category])) (by first | rfl | (simp only [yArgs, va_cat_rf]; simp [Value.category])) ?_
  intro Z Q E F
  first | refine y_ald_n E dJ4_size_0 (by rfl) ?_ | refine y_aload_n E dJ4_size_0 (by rfl) ?_
  refine y_get E dJ4_size_1 fl_J4_7_J4 (by assumption) (by rfl) ?_
  refine y_ireturn E F rfl rfl dJ4_size_4 (by omega) (by omega) ⟨rfl, rfl⟩
theorem c_LL_isEmpty {G : yH} {τ : Nat × Nat} {a : Nat} {xs : List (Option Nat)} (h : isLL G τ a xs) (hl : xs.length ≤ 60000) : Ct_J0_isEmpty Γ 2 0 0 [.ref a] G (fun r G' => r = some (.int (iI (b2i xs.isEmpty))) ∧ G' = G) noX := by
  have h0 := h
  obtain ⟨mc, ns, h⟩ := h
  have h1 := h.1
  unfold llE at h1
  refine y_start (lv0 := [some (.ref a)]) (nm := "isEmpty") (own := RJ0) (by decide +kernel) rfl rfl (by first | exact Nat.le_of_ble_eq_true rfl | (simp only [yArgs, va_cat_rf]; simp [Value.category])) (by first | rfl | (simp only [yArgs, va_cat_rf]; simp [Value.category])) ?_
  intro Z Q E F
  first | refine y_ald_n E dJ0_isEmpty_0 (by rfl) ?_ | refine y_aload_n E dJ0_isEmpty_0 (by rfl) ?_
  refine y_callU E dJ0_isEmpty_1 lk_J0_7_J4 (c_J4_size h0) (by rfl) h1 rfl (by decide) (by omega) (by omega) rfl (Nat.le_of_ble_eq_true rfl) ?_ (fun _ _ _ h => h.elim)
  rintro v G1 ⟨rfl, rfl⟩
  refine y_if_ne (tgt := 11) E dJ0_isEmpty_4 (by decide) (by omega) (fun h4 => ?_) (fun h4 => ?_)
  · refine y_iconst E dJ0_isEmpty_11 ?_
    have : xs.isEmpty = false := by cases xs with | nil => simp at h4 | cons b r => rfl
    refine y_ireturn E F rfl (nar_z (by omega)) dJ0_isEmpty_12 (by omega) (by omega) ⟨by rw [this]; rfl, rfl⟩
  · refine y_iconst E dJ0_isEmpty_7 ?_
    refine y_goto (tgt := 12) E dJ0_isEmpty_8 (by decide) ?_
    have : xs.isEmpty = true := by cases xs with | nil => rfl | cons b r => simp at h4; omega
    refine y_ireturn E F rfl (nar_z (by omega)) dJ0_isEmpty_12 (by omega) (by omega) ⟨by rw [this]; rfl, rfl⟩
theorem c_J4_unlinkLast {G : yH} {τ : Nat × Nat} {a q n : Nat} {mc : Int32} {x : Option Nat} {xs : List (Option Nat)} {ns : List Nat} (h : isLLn G τ a mc xs ns) (hn : ns.length = n + 1) (hq : ns[n]? = some q) (hx : xs[n]? = some x) : Ct_J4_unlinkLast Γ 1 0 0 [.ref a, .ref q] G (fun r G' => r = some (va_rf x) ∧ isLLn G' τ a (mc + iI 1) (xs.eraseIdx n) (ns.eraseIdx n) ∧ gK (· = τ) G G') noX := by
  have hh := h
  obtain ⟨h1, h2, h3, h4⟩ := h
  unfold llE at h1
  have hq0 := h4 n q x hq hx
  have hqa : q ≠ a := hh.nd_ne hq
  have hnx : ns[n + 1]? = none := List.getElem?_eq_none (by omega)
  unfold ndE at hq0
  rw [hnx] at hq0
  have hP := gK_w (P := (· = τ)) (some τ, (.inr (10, [.null, .null, .null]) : yE)) hq0 rfl
  refine y_start (lv0 := [some (.ref a), some (.ref q), none, none]) (nm := "unlinkLast") (own := RJ4) (by decide +kernel) rfl rfl (by first | exact Nat.le_of_ble_eq_true rfl | (simp only [yArgs, va_cat_rf]; simp [Value.category])) (by first | rfl | (simp only [yArgs, va_cat_rf]; simp [Value.category])) ?_
  intro Z Q E F
  first | refine y_ald_n E dJ4_unlinkLast_0 (by rfl) ?_ | refine y_aload_n E dJ4_unlinkLast_0 (by rfl) ?_
  refine y_get E dJ4_unlinkLast_1 fl_J4_39_J36 (by assumption) (by rfl) ?_
  first | refine y_ast_n (j := 2) E dJ4_unlinkLast_4 rfl (Nat.le_of_ble_eq_true rfl) ?_ | refine y_astore_n (j := 2) E dJ4_unlinkLast_4 rfl (Nat.le_of_ble_eq_true rfl) ?_ | refine y_astore_n (j := 2) (r := none) E dJ4_unlinkLast_4 rfl (Nat.le_of_ble_eq_true rfl) ?_
  simp only [lst1, lkill_rf, lkill_ref, lkill_int, lkill_no, lkill_null]
  first | refine y_ald_n E dJ4_unlinkLast_5 (by rfl) ?_ | refine y_aload_n E dJ4_unlinkLast_5 (by rfl) ?_
  refine y_get E dJ4_unlinkLast_6 fl_J4_30_J36 (by assumption) (by rfl) ?_
  generalize hpv : pvo ns n = pv at hq0
  first | refine y_ast_n (j := 3) E dJ4_unlinkLast_9 rfl (Nat.le_of_ble_eq_true rfl) ?_ | refine y_astore_n (j := 3) E dJ4_unlinkLast_9 rfl (Nat.le_of_ble_eq_true rfl) ?_ | refine y_astore_n (j := 3) (r := none) E dJ4_unlinkLast_9 rfl (Nat.le_of_ble_eq_true rfl) ?_
  simp only [lst1, lkill_rf, lkill_ref, lkill_int, lkill_no, lkill_null]
  first | refine y_ald_n E dJ4_unlinkLast_10 (by rfl) ?_ | refine y_aload_n E dJ4_unlinkLast_10 (by rfl) ?_
  refine y_null E dJ4_unlinkLast_11 ?_
  refine y_put E dJ4_unlinkLast_12 fl_J4_39_J36 fw_J36_0 (by first | rfl | exact nar_r _ _) (by first | rfl | exact fit_r _ _) (by assumption) (Nat.le_of_ble_eq_true rfl) ?_
  first | refine y_ald_n E dJ4_unlinkLast_15 (by rfl) ?_ | refine y_aload_n E dJ4_unlinkLast_15 (by rfl) ?_
  refine y_null E dJ4_unlinkLast_16 ?_
  refine y_put E dJ4_unlinkLast_17 fl_J4_30_J36 fw_J36_2 (by first | rfl | exact nar_r _ _) (by first | rfl | exact fit_r _ _) (gset_s _ _ _) (Nat.le_of_ble_eq_true rfl) ?_
  refine y_heap (gset_gset _ _ _ _) ?_
  by_cases h0 : n = 0
  · subst h0
    have hp0 : pv = none := by rw [← hpv]; rfl
    subst hp0
    first | refine y_ald_n E dJ4_unlinkLast_20 (by rfl) ?_ | refine y_aload_n E dJ4_unlinkLast_20 (by rfl) ?_
    first | refine y_ald_n E dJ4_unlinkLast_21 (by rfl) ?_ | refine y_aload_n E dJ4_unlinkLast_21 (by rfl) ?_
    refine y_put E dJ4_unlinkLast_22 fl_J4_27_J4 fw_J4_3 (by first | rfl | exact nar_r _ _) (by first | rfl | exact fit_r _ _) (gs_n hqa.symm h1) (Nat.le_of_ble_eq_true rfl) ?_
    first | refine y_ald_n E dJ4_unlinkLast_25 (by rfl) ?_ | refine y_aload_n E dJ4_unlinkLast_25 (by rfl) ?_
    refine y_ifnonnull_n E dJ4_unlinkLast_26 ?_
    first | refine y_ald_n E dJ4_unlinkLast_29 (by rfl) ?_ | refine y_aload_n E dJ4_unlinkLast_29 (by rfl) ?_
    refine y_null E dJ4_unlinkLast_30 ?_
    refine y_put E dJ4_unlinkLast_31 fl_J4_18_J4 fw_J4_2 (by first | rfl | exact nar_r _ _) (by first | rfl | exact fit_r _ _) (gset_s _ _ _) (Nat.le_of_ble_eq_true rfl) ?_
    refine y_heap (gset_gset _ _ _ _) ?_
    refine y_goto (tgt := 42) E dJ4_unlinkLast_34 (by decide) ?_
    first | refine y_ald_n E dJ4_unlinkLast_42 (by rfl) ?_ | refine y_aload_n E dJ4_unlinkLast_42 (by rfl) ?_
    refine y_dup E dJ4_unlinkLast_43 rfl ?_
    refine y_get E dJ4_unlinkLast_44 fl_J4_7_J4 (gset_s _ _ _) (by rfl) ?_
    refine y_iconst E dJ4_unlinkLast_47 ?_
    refine y_isub E dJ4_unlinkLast_48 ?_
    refine y_put E dJ4_unlinkLast_49 fl_J4_7_J4 fw_J4_1 rfl (by rfl) (gset_s _ _ _) (Nat.le_of_ble_eq_true rfl) ?_
    first | refine y_ald_n E dJ4_unlinkLast_52 (by rfl) ?_ | refine y_aload_n E dJ4_unlinkLast_52 (by rfl) ?_
    refine y_dup E dJ4_unlinkLast_53 rfl ?_
    refine y_get E dJ4_unlinkLast_54 fl_J4_33_J4 (gset_s _ _ _) (by rfl) ?_
    refine y_iconst E dJ4_unlinkLast_57 ?_
    refine y_iaddG E dJ4_unlinkLast_58 ?_
    refine y_put E dJ4_unlinkLast_59 fl_J4_33_J4 fw_J4_0 rfl (by rfl) (gset_s _ _ _) (Nat.le_of_ble_eq_true rfl) ?_
    refine y_heap (by rw [gset_gset, gset_gset]) ?_
    first | refine y_ald_n E dJ4_unlinkLast_62 (by rfl) ?_ | refine y_aload_n E dJ4_unlinkLast_62 (by rfl) ?_
    refine y_areturn E F rfl (Or.inl ⟨_, rfl⟩) dJ4_unlinkLast_63 (by omega) (by omega) ⟨rfl, ?_, gK_t hP (gK_w _ (gs_n hqa.symm h1) rfl)⟩
    match ns, hn with
    | [b], _ =>
      refine hh.erase (k := 0) (by simp) ?_ (fun i nd x e => by omega) (fun nd x e => by simp at e) (fun i nd h1 h2 h3 e => ?_)
      · rw [gset_s]
        simp [llE, ← h2, va_rf]
      · exfalso
        have := (List.getElem?_eq_some_iff.mp e).1
        simp at this
        omega
  · have hpn : pv = ns[n - 1]? := by rw [← hpv]; unfold pvo; rw [if_neg h0]
    have hl1 : n - 1 < ns.length := by omega
    have hp1 : ns[n - 1]? = some ns[n - 1] := List.getElem?_eq_getElem hl1
    rw [hp1] at hpn
    generalize hpe : ns[n - 1] = p at hpn hp1
    subst hpn
    obtain ⟨x1, hx1, hg1⟩ := hh.at hp1
    have hn1a : p ≠ a := hh.nd_ne hp1
    have hn1q : p ≠ q := hh.nd_inj hp1 hq (by omega)
    have hg1' := hg1
    unfold ndE at hg1
    refine y_lv (lv' := [some (.ref a), some (.ref q), some (va_rf x), some (.ref p)]) rfl ?_
    first | refine y_ald_n E dJ4_unlinkLast_20 (by rfl) ?_ | refine y_aload_n E dJ4_unlinkLast_20 (by rfl) ?_
    first | refine y_ald_n E dJ4_unlinkLast_21 (by rfl) ?_ | refine y_aload_n E dJ4_unlinkLast_21 (by rfl) ?_
    refine y_put E dJ4_unlinkLast_22 fl_J4_27_J4 fw_J4_3 (by first | rfl | exact nar_r _ _) (by first | rfl | exact fit_r _ _) (gs_n hqa.symm h1) (Nat.le_of_ble_eq_true rfl) ?_
    first | refine y_ald_n E dJ4_unlinkLast_25 (by rfl) ?_ | refine y_aload_n E dJ4_unlinkLast_25 (by rfl) ?_
    refine y_ifnonnull_r (tgt := 37) E dJ4_unlinkLast_26 (by decide) ?_
    first | refine y_ald_n E dJ4_unlinkLast_37 (by rfl) ?_ | refine y_aload_n E dJ4_unlinkLast_37 (by rfl) ?_
    refine y_null E dJ4_unlinkLast_38 ?_
    refine y_put E dJ4_unlinkLast_39 fl_J4_36_J36 fw_J36_1 (by first | rfl | exact nar_r _ _) (by first | rfl | exact fit_r _ _) (gs_n hn1a (gs_n hn1q hg1)) (Nat.le_of_ble_eq_true rfl) ?_
    have hal := hn1a.symm
    refine y_heap (gset_comm _ _ _ hal) ?_
    first | refine y_ald_n E dJ4_unlinkLast_42 (by rfl) ?_ | refine y_aload_n E dJ4_unlinkLast_42 (by rfl) ?_
    refine y_dup E dJ4_unlinkLast_43 rfl ?_
    refine y_get E dJ4_unlinkLast_44 fl_J4_7_J4 (gset_s _ _ _) (by rfl) ?_
    refine y_iconst E dJ4_unlinkLast_47 ?_
    refine y_isub E dJ4_unlinkLast_48 ?_
    refine y_put E dJ4_unlinkLast_49 fl_J4_7_J4 fw_J4_1 rfl (by rfl) (gset_s _ _ _) (Nat.le_of_ble_eq_true rfl) ?_
    first | refine y_ald_n E dJ4_unlinkLast_52 (by rfl) ?_ | refine y_aload_n E dJ4_unlinkLast_52 (by rfl) ?_
    refine y_dup E dJ4_unlinkLast_53 rfl ?_
    refine y_get E dJ4_unlinkLast_54 fl_J4_33_J4 (gset_s _ _ _) (by rfl) ?_
    refine y_iconst E dJ4_unlinkLast_57 ?_
    refine y_iaddG E dJ4_unlinkLast_58 ?_
    refine y_put E dJ4_unlinkLast_59 fl_J4_33_J4 fw_J4_0 rfl (by rfl) (gset_s _ _ _) (Nat.le_of_ble_eq_true rfl) ?_
    refine y_heap (by rw [gset_gset, gset_gset]) ?_
    first | refine y_ald_n E dJ4_unlinkLast_62 (by rfl) ?_ | refine y_aload_n E dJ4_unlinkLast_62 (by rfl) ?_
    refine y_areturn E F rfl (Or.inl ⟨_, rfl⟩) dJ4_unlinkLast_63 (by omega) (by omega) ⟨rfl, ?_, gK_t hP (gK_t (gK_w _ (gs_n hn1q hg1) rfl) (gK_w _ (gs_n hal (gs_n hqa.symm h1)) rfl))⟩
    refine hh.erase (k := n) (by omega) ?_ (fun i nd y e1 e2 e3 => ?_) (fun nd y e1 e2 => by rw [hnx] at e1; cases e1) (fun i nd h1 h2 h3 e => ?_)
    · rw [gset_s]
      have e1 : (ns.eraseIdx n).head? = ns.head? := by
        rw [List.head?_eq_getElem?, List.head?_eq_getElem?, List.getElem?_eraseIdx, if_pos (by omega)]
      have e2 : (ns.eraseIdx n).getLast? = some p := by
        rw [List.getLast?_eq_getElem?, List.length_eraseIdx_of_lt (by omega), List.getElem?_eraseIdx, if_pos (by omega), ← hp1]
        congr 1
        omega
      rw [e1, e2]
      simp [llE, va_rf, ← h2]
    · have hi : i = n - 1 := by omega
      subst hi
      rw [hp1] at e2
      cases e2
      rw [hx1] at e3
      cases e3
      refine gs_n hn1a ?_
      rw [gset_s, hnx]
      rfl
    · have ha1 : nd ≠ a := hh.nd_ne e
      have ha2 : nd ≠ q := hh.nd_inj e hq h2
      have ha3 : nd ≠ p := hh.nd_inj e hp1 (by omega)
      rw [gset_n _ ha1, gset_n _ ha3, gset_n _ ha2]
theorem c_J4_removeLast {G : yH} {τ : Nat × Nat} {a : Nat} {x : Option Nat} {xs : List (Option Nat)} (h : isLL G τ a (xs ++ [x])) : Ct_J4_removeLast Γ 2 0 0 [.ref a] G (fun r G' => r = some (va_rf x) ∧ isLL G' τ a xs ∧ gK (· = τ) G G') noX := by
  obtain ⟨mc, ns, h⟩ := h
  have h1 := h.1
  have hlen : ns.length = xs.length + 1 := by have := h.2.1; simpa using this
  have hq0 : ns[xs.length]? = some (ns[xs.length]'(by omega)) := List.getElem?_eq_getElem _
  generalize ns[xs.length]'(by omega) = q at hq0
  have hla : ns.getLast? = some q := by rw [List.getLast?_eq_getElem?, hlen]; exact hq0
  rw [hla] at h1
  unfold llE at h1
  refine y_start (lv0 := [some (.ref a), none]) (nm := "removeLast") (own := RJ4) (by decide +kernel) rfl rfl (by first | exact Nat.le_of_ble_eq_true rfl | (simp only [yArgs, va_cat_rf]; simp [Value.category])) (by first | rfl | (simp only [yArgs, va_cat_rf]; simp [Value.category])) ?_
  intro Z Q E F
  first | refine y_ald_n E dJ4_removeLast_0 (by rfl) ?_ | refine y_aload_n E dJ4_removeLast_0 (by rfl) ?_
  refine y_get E dJ4_removeLast_1 fl_J4_27_J4 (by assumption) (by rfl) ?_
  refine y_top (v' := .ref q) rfl ?_
  first | refine y_ast_n (j := 1) E dJ4_removeLast_4 rfl (Nat.le_of_ble_eq_true rfl) ?_ | refine y_astore_n (j := 1) E dJ4_removeLast_4 rfl (Nat.le_of_ble_eq_true rfl) ?_ | refine y_astore_n (j := 1) (r := none) E dJ4_removeLast_4 rfl (Nat.le_of_ble_eq_true rfl) ?_
  first | refine y_ald_n E dJ4_removeLast_5 (by rfl) ?_ | refine y_aload_n E dJ4_removeLast_5 (by rfl) ?_
  refine y_ifnonnull_r (tgt := 17) E dJ4_removeLast_6 (by decide) ?_
  first | refine y_ald_n E dJ4_removeLast_17 (by rfl) ?_ | refine y_aload_n E dJ4_removeLast_17 (by rfl) ?_
  first | refine y_ald_n E dJ4_removeLast_18 (by rfl) ?_ | refine y_aload_n E dJ4_removeLast_18 (by rfl) ?_
  refine y_callV E dJ4_removeLast_19 lk_J4_50 (c_J4_unlinkLast (n := xs.length) (x := x) h hlen hq0 (by simp)) (by rfl) h1 rfl (by decide) (by omega) (by omega) rfl (Nat.le_of_ble_eq_true rfl) ?_ (fun _ _ _ h => h.elim)
  rintro v G1 ⟨rfl, g1, g2⟩
  have e : (xs ++ [x]).eraseIdx xs.length = xs := by
    rw [List.eraseIdx_append_of_length_le (by omega)]
    simp
  rw [e] at g1
  refine y_areturn E F rfl (Or.inl ⟨_, rfl⟩) dJ4_removeLast_22 (by omega) (by omega) ⟨rfl, ⟨_, _, g1⟩, g2⟩
end LL2
