/-! ===== java.util.LinkedList ===== -/
theorem nar_r (C : String) (r : Option Nat) : narrow (.object C) (va_rf r) = va_rf r := by cases r <;> rfl
theorem fit_r (C : String) (r : Option Nat) : fits (.object C) (va_rf r) = true := by cases r <;> rfl
def llE (mc : Int32) (n : Int) (fi la : Option Nat) : yE := .inr (9, [.int mc, .int (iI n), va_rf fi, va_rf la])
def ndE (x nx pv : Option Nat) : yE := .inr (10, [va_rf x, va_rf nx, va_rf pv])
def pvo (ns : List Nat) (i : Nat) : Option Nat := if i = 0 then none else ns[i - 1]?
/-- a linked list a: its elements xs in the nodes ns; all its cells have the tag τ -/
def isLLn (G : yH) (τ : Nat × Nat) (a : Nat) (mc : Int32) (xs : List (Option Nat)) (ns : List Nat) : Prop := G a = some (some τ, llE mc xs.length ns.head? ns.getLast?) ∧ ns.length = xs.length ∧ ns.Nodup ∧ ∀ (i nd : Nat) (x : Option Nat), ns[i]? = some nd → xs[i]? = some x → G nd = some (some τ, ndE x ns[i + 1]? (pvo ns i))
def isLL (G : yH) (τ : Nat × Nat) (a : Nat) (xs : List (Option Nat)) : Prop := ∃ mc ns, isLLn G τ a mc xs ns
theorem isLLn.kk {P : Nat × Nat → Prop} {G G' : yH} {τ : Nat × Nat} {a : Nat} {mc : Int32} {xs : List (Option Nat)} {ns : List Nat} (h : isLLn G τ a mc xs ns) (hk : gK P G G') (hP : ¬ P τ) : isLLn G' τ a mc xs ns := ⟨hk.at h.1 hP, h.2.1, h.2.2.1, fun i nd x h1 h2 => hk.at (h.2.2.2 i nd x h1 h2) hP⟩
theorem isLL.kk {P : Nat × Nat → Prop} {G G' : yH} {τ : Nat × Nat} {a : Nat} {xs : List (Option Nat)} (h : isLL G τ a xs) (hk : gK P G G') (hP : ¬ P τ) : isLL G' τ a xs := by
  obtain ⟨mc, ns, h⟩ := h
  exact ⟨mc, ns, h.kk hk hP⟩
theorem isLLn.nd_ne {G : yH} {τ : Nat × Nat} {a : Nat} {mc : Int32} {xs : List (Option Nat)} {ns : List Nat} (h : isLLn G τ a mc xs ns) {i nd : Nat} (hi : ns[i]? = some nd) : nd ≠ a := by
  have hlt : i < xs.length := by rw [← h.2.1]; exact (List.getElem?_eq_some_iff.mp hi).1
  exact g_ne (h.2.2.2 i nd _ hi (List.getElem?_eq_getElem hlt)) h.1 (by simp [ndE, llE])
/-- behind an append: the new node q, the list object, the former last node -/
theorem isLLn.append {G G' : yH} {τ : Nat × Nat} {a : Nat} {mc mc' : Int32} {xs : List (Option Nat)} {ns : List Nat} {q : Nat} {x : Option Nat} (h : isLLn G τ a mc xs ns) (hq : G q = none) (ha : G' a = some (some τ, llE mc' (xs.length + 1) (some (ns.head?.getD q)) (some q))) (hnq : G' q = some (some τ, ndE x none ns.getLast?)) (hl : ∀ l y, ns.getLast? = some l → xs[ns.length - 1]? = some y → G' l = some (some τ, ndE y (some q) (pvo ns (ns.length - 1)))) (ho : ∀ i nd, i + 1 < ns.length → ns[i]? = some nd → G' nd = G nd) : isLLn G' τ a mc' (xs ++ [x]) (ns ++ [q]) := by
  obtain ⟨h1, h2, h3, h4⟩ := h
  have hqn : q ∉ ns := by
    intro hm
    obtain ⟨i, hi⟩ := List.getElem?_of_mem hm
    have hlt : i < xs.length := by rw [← h2]; exact (List.getElem?_eq_some_iff.mp hi).1
    have := h4 i q _ hi (List.getElem?_eq_getElem hlt)
    rw [hq] at this
    cases this
  refine ⟨?_, by simp [h2], ?_, ?_⟩
  · rw [ha]
    congr 3
    · simp
    · cases ns <;> simp
    · simp
  · rw [List.nodup_append]
    refine ⟨h3, by simp, ?_⟩
    intro b hb c hc
    simp at hc
    subst hc
    exact fun e => hqn (e ▸ hb)
  · intro i nd y hi hy
    by_cases hlt : i < ns.length
    · rw [List.getElem?_append_left hlt] at hi
      rw [List.getElem?_append_left (by omega)] at hy
      have hp : pvo (ns ++ [q]) i = pvo ns i := by
        unfold pvo
        by_cases h0 : i = 0
        · simp [h0]
        · rw [if_neg h0, if_neg h0, List.getElem?_append_left (by omega)]
      by_cases hlast : i + 1 < ns.length
      · rw [ho i nd hlast hi, h4 i nd y hi hy, hp, List.getElem?_append_left hlast]
      · have hi1 : i = ns.length - 1 := by omega
        have hgl : ns.getLast? = some nd := by rw [List.getLast?_eq_getElem?, ← hi1]; exact hi
        rw [hl nd y hgl (by rw [← hi1]; exact hy), hp, hi1]
        congr 3
        rw [show ns.length - 1 + 1 = ns.length by omega]
        simp
    · have hi2 : i = ns.length := by
        have := (List.getElem?_eq_some_iff.mp hi).1
        simp at this
        omega
      subst hi2
      simp at hi
      subst hi
      rw [h2] at hy
      simp at hy
      subst hy
      rw [hnq]
      congr 3
      · simp
      · unfold pvo
        by_cases h0 : ns.length = 0
        · rw [if_pos h0]
          have : ns = [] := List.eq_nil_of_length_eq_zero h0
          subst this
          rfl
        · rw [if_neg h0, List.getElem?_append_left (by omega), List.getLast?_eq_getElem?]
section LL
variable {Γ : yG}
set_option maxHeartbeats 4000000
theorem c_J36_init {G : yH} {q : Nat} {τ : Nat × Nat} {x nx pv : Option Nat} (h : G q = some (some τ, .inr (10, [.null, .null, .null]))) : Ct_J36_init Γ 1 0 0 [.ref q, va_rf pv, va_rf x, va_rf nx] G (fun r G' => r = none ∧ G' = gset G q (some τ, ndE x nx pv)) noX := by
  refine y_start (lv0 := [some (.ref q), some (va_rf pv), some (va_rf x), some (va_rf nx)]) (nm := "<init>") (own := RJ36) (by decide +kernel) rfl rfl (by first | exact Nat.le_of_ble_eq_true rfl | (simp only [yArgs, va_cat_rf]; simp [Value.category])) (by first | rfl | (simp only [yArgs, va_cat_rf]; simp [Value.category])) ?_
  intro Z Q E F
  first | refine y_ald_n E dJ36_init_0 (by rfl) ?_ | refine y_aload_n E dJ36_init_0 (by rfl) ?_
  refine y_objInit E dJ36_init_1 q1160 q167 q168 (by decide) (Nat.le_of_ble_eq_true rfl) ?_
  first | refine y_ald_n E dJ36_init_4 (by rfl) ?_ | refine y_aload_n E dJ36_init_4 (by rfl) ?_
  first | refine y_ald_n E dJ36_init_5 (by rfl) ?_ | refine y_aload_n E dJ36_init_5 (by rfl) ?_
  refine y_put E dJ36_init_6 fl_J36_7_J36 fw_J36_0 (by first | rfl | exact nar_r _ _) (by first | rfl | exact fit_r _ _) (by assumption) (Nat.le_of_ble_eq_true rfl) ?_
  first | refine y_ald_n E dJ36_init_9 (by rfl) ?_ | refine y_aload_n E dJ36_init_9 (by rfl) ?_
  first | refine y_ald_n E dJ36_init_10 (by rfl) ?_ | refine y_aload_n E dJ36_init_10 (by rfl) ?_
  refine y_put E dJ36_init_11 fl_J36_13_J36 fw_J36_1 (by first | rfl | exact nar_r _ _) (by first | rfl | exact fit_r _ _) (gset_s _ _ _) (Nat.le_of_ble_eq_true rfl) ?_
  refine y_heap (gset_gset _ _ _ _) ?_
  first | refine y_ald_n E dJ36_init_14 (by rfl) ?_ | refine y_aload_n E dJ36_init_14 (by rfl) ?_
  first | refine y_ald_n E dJ36_init_15 (by rfl) ?_ | refine y_aload_n E dJ36_init_15 (by rfl) ?_
  refine y_put E dJ36_init_16 fl_J36_17_J36 fw_J36_2 (by first | rfl | exact nar_r _ _) (by first | rfl | exact fit_r _ _) (gset_s _ _ _) (Nat.le_of_ble_eq_true rfl) ?_
  refine y_heap (gset_gset _ _ _ _) ?_
  refine y_return E F rfl dJ36_init_19 (by omega) (by omega) ⟨rfl, rfl⟩
theorem c_J4_linkLast {G : yH} {τ : Nat × Nat} {a : Nat} {xs : List (Option Nat)} {x : Option Nat} (h : isLL G τ a xs) : Ct_J4_linkLast Γ 2 1 3 [.ref a, va_rf x] G (fun r G' => r = none ∧ isLL G' τ a (xs ++ [x]) ∧ gK (· = τ) G G') noX := by
  obtain ⟨mc, ns, h⟩ := h
  have hh := h
  obtain ⟨h1, h2, h3, h4⟩ := h
  unfold llE at h1
  refine y_start (lv0 := [some (.ref a), some (va_rf x), none, none]) (nm := "linkLast") (own := RJ4) (by decide +kernel) rfl rfl (by first | exact Nat.le_of_ble_eq_true rfl | (simp only [yArgs, va_cat_rf]; simp [Value.category])) (by first | rfl | (simp only [yArgs, va_cat_rf]; simp [Value.category])) ?_
  intro Z Q E F
  first | refine y_ald_n E dJ4_linkLast_0 (by rfl) ?_ | refine y_aload_n E dJ4_linkLast_0 (by rfl) ?_
  refine y_get E dJ4_linkLast_1 fl_J4_27_J4 (by assumption) (by rfl) ?_
  generalize hla : ns.getLast? = la at h1
  first | refine y_ast_n (j := 2) E dJ4_linkLast_4 rfl (Nat.le_of_ble_eq_true rfl) ?_ | refine y_astore_n (j := 2) E dJ4_linkLast_4 rfl (Nat.le_of_ble_eq_true rfl) ?_ | refine y_astore_n (j := 2) (r := none) E dJ4_linkLast_4 rfl (Nat.le_of_ble_eq_true rfl) ?_
  simp only [lst1, lkill_rf, lkill_ref, lkill_int, lkill_no, lkill_null]
  refine y_new E τ dJ4_linkLast_5 nw_J4_22 (by omega) (by omega) (fun q hq => ?_)
  refine y_dup E dJ4_linkLast_8 rfl ?_
  first | refine y_ald_n E dJ4_linkLast_9 (by rfl) ?_ | refine y_aload_n E dJ4_linkLast_9 (by rfl) ?_
  first | refine y_ald_n E dJ4_linkLast_10 (by rfl) ?_ | refine y_aload_n E dJ4_linkLast_10 (by rfl) ?_
  refine y_null E dJ4_linkLast_11 ?_
  refine y_callI E dJ4_linkLast_12 lk_J4_24 (c_J36_init (q := q) (x := x) (nx := none) (pv := la) (gset_s _ _ _)) (by rfl) (by decide) (by omega) (by omega) rfl (Nat.le_of_ble_eq_true rfl) ?_ (fun _ _ _ h => h.elim)
  rintro v G1 ⟨rfl, rfl⟩
  refine y_heap (gset_gset _ _ _ _) ?_
  have hqa : q ≠ a := (g_nn h1 hq).symm
  first | refine y_ast_n (j := 3) E dJ4_linkLast_15 rfl (Nat.le_of_ble_eq_true rfl) ?_ | refine y_astore_n (j := 3) E dJ4_linkLast_15 rfl (Nat.le_of_ble_eq_true rfl) ?_ | refine y_astore_n (j := 3) (r := none) E dJ4_linkLast_15 rfl (Nat.le_of_ble_eq_true rfl) ?_
  simp only [lst1, lkill_rf, lkill_ref, lkill_int, lkill_no, lkill_null]
  first | refine y_ald_n E dJ4_linkLast_16 (by rfl) ?_ | refine y_aload_n E dJ4_linkLast_16 (by rfl) ?_
  first | refine y_ald_n E dJ4_linkLast_17 (by rfl) ?_ | refine y_aload_n E dJ4_linkLast_17 (by rfl) ?_
  refine y_put E dJ4_linkLast_18 fl_J4_27_J4 fw_J4_3 (by first | rfl | exact nar_r _ _) (by first | rfl | exact fit_r _ _) (gs_n hqa.symm h1) (Nat.le_of_ble_eq_true rfl) ?_
  first | refine y_ald_n E dJ4_linkLast_21 (by rfl) ?_ | refine y_aload_n E dJ4_linkLast_21 (by rfl) ?_
  cases la with
  | none =>
    refine y_ifnonnull_n E dJ4_linkLast_22 ?_
    first | refine y_ald_n E dJ4_linkLast_25 (by rfl) ?_ | refine y_aload_n E dJ4_linkLast_25 (by rfl) ?_
    first | refine y_ald_n E dJ4_linkLast_26 (by rfl) ?_ | refine y_aload_n E dJ4_linkLast_26 (by rfl) ?_
    refine y_put E dJ4_linkLast_27 fl_J4_18_J4 fw_J4_2 (by first | rfl | exact nar_r _ _) (by first | rfl | exact fit_r _ _) (gset_s _ _ _) (Nat.le_of_ble_eq_true rfl) ?_
    refine y_goto (tgt := 38) E dJ4_linkLast_30 (by decide) ?_
    refine y_heap (gset_gset _ _ _ _) ?_
    first | refine y_ald_n E dJ4_linkLast_38 (by rfl) ?_ | refine y_aload_n E dJ4_linkLast_38 (by rfl) ?_
    refine y_dup E dJ4_linkLast_39 rfl ?_
    refine y_get E dJ4_linkLast_40 fl_J4_7_J4 (gset_s _ _ _) (by rfl) ?_
    refine y_iconst E dJ4_linkLast_43 ?_
    refine y_iadd E dJ4_linkLast_44 ?_
    refine y_put E dJ4_linkLast_45 fl_J4_7_J4 fw_J4_1 rfl (by rfl) (gset_s _ _ _) (Nat.le_of_ble_eq_true rfl) ?_
    first | refine y_ald_n E dJ4_linkLast_48 (by rfl) ?_ | refine y_aload_n E dJ4_linkLast_48 (by rfl) ?_
    refine y_dup E dJ4_linkLast_49 rfl ?_
    refine y_get E dJ4_linkLast_50 fl_J4_33_J4 (gset_s _ _ _) (by rfl) ?_
    refine y_iconst E dJ4_linkLast_53 ?_
    refine y_iaddG E dJ4_linkLast_54 ?_
    refine y_put E dJ4_linkLast_55 fl_J4_33_J4 fw_J4_0 rfl (by rfl) (gset_s _ _ _) (Nat.le_of_ble_eq_true rfl) ?_
    refine y_heap (by rw [gset_gset, gset_gset]) ?_
    have hns : ns = [] := List.getLast?_eq_none_iff.mp hla
    subst hns
    refine y_return E F rfl dJ4_linkLast_58 (by omega) (by omega) ⟨rfl, ⟨mc + iI 1, [] ++ [q], hh.append hq (gset_s _ _ _) (gs_n hqa (gset_s _ _ _)) (fun l y e => by cases e) (fun i nd e => by simp at e)⟩, gK_t (gK_n _ hq) (gK_w _ (gs_n hqa.symm h1) rfl)⟩
  | some l =>
    have hi : ns[ns.length - 1]? = some l := by rw [← List.getLast?_eq_getElem?]; exact hla
    have hlt : ns.length - 1 < xs.length := by
      have := (List.getElem?_eq_some_iff.mp hi).1
      omega
    have hL := h4 _ l _ hi (List.getElem?_eq_getElem hlt)
    have hla2 : l ≠ a := hh.nd_ne hi
    have hlq : l ≠ q := g_nn hL hq
    unfold ndE at hL
    refine y_ifnonnull_r (tgt := 33) E dJ4_linkLast_22 (by decide) ?_
    first | refine y_ald_n E dJ4_linkLast_33 (by rfl) ?_ | refine y_aload_n E dJ4_linkLast_33 (by rfl) ?_
    first | refine y_ald_n E dJ4_linkLast_34 (by rfl) ?_ | refine y_aload_n E dJ4_linkLast_34 (by rfl) ?_
    refine y_put E dJ4_linkLast_35 fl_J4_36_J36 fw_J36_1 (by first | rfl | exact nar_r _ _) (by first | rfl | exact fit_r _ _) (gs_n hla2 (gs_n hlq hL)) (Nat.le_of_ble_eq_true rfl) ?_
    have hal := hla2.symm
    refine y_heap (gset_comm _ _ _ hal) ?_
    first | refine y_ald_n E dJ4_linkLast_38 (by rfl) ?_ | refine y_aload_n E dJ4_linkLast_38 (by rfl) ?_
    refine y_dup E dJ4_linkLast_39 rfl ?_
    refine y_get E dJ4_linkLast_40 fl_J4_7_J4 (gset_s _ _ _) (by rfl) ?_
    refine y_iconst E dJ4_linkLast_43 ?_
    refine y_iadd E dJ4_linkLast_44 ?_
    refine y_put E dJ4_linkLast_45 fl_J4_7_J4 fw_J4_1 rfl (by rfl) (gset_s _ _ _) (Nat.le_of_ble_eq_true rfl) ?_
    first | refine y_ald_n E dJ4_linkLast_48 (by rfl) ?_ | refine y_aload_n E dJ4_linkLast_48 (by rfl) ?_
    refine y_dup E dJ4_linkLast_49 rfl ?_
    refine y_get E dJ4_linkLast_50 fl_J4_33_J4 (gset_s _ _ _) (by rfl) ?_
    refine y_iconst E dJ4_linkLast_53 ?_
    refine y_iaddG E dJ4_linkLast_54 ?_
    refine y_put E dJ4_linkLast_55 fl_J4_33_J4 fw_J4_0 rfl (by rfl) (gset_s _ _ _) (Nat.le_of_ble_eq_true rfl) ?_
    refine y_heap (by rw [gset_gset, gset_gset]) ?_
    refine y_return E F rfl dJ4_linkLast_58 (by omega) (by omega) ⟨rfl, ⟨mc + iI 1, ns ++ [q], hh.append hq ?_ ?_ ?_ ?_⟩, gK_t (gK_n _ hq) (gK_t (gK_w _ (gs_n hlq hL) rfl) (gK_w _ (gs_n hal (gs_n hqa.symm h1)) rfl))⟩
    · rw [gset_s]
      cases ns with
      | nil => cases hla
      | cons b r => rfl
    · rw [hla]
      exact gs_n hqa (gs_n hlq.symm (gset_s _ _ _))
    · intro l' y e1 e2
      rw [hla] at e1
      cases e1
      have e3 := List.getElem?_eq_getElem hlt
      rw [e2] at e3
      cases e3
      refine gs_n hla2 ?_
      rw [gset_s]
      rfl
    · intro i nd hi1 hi2
      have hn1 : nd ≠ a := hh.nd_ne hi2
      have hlt2 : i < xs.length := by omega
      have hn2 : nd ≠ q := g_nn (h4 i nd _ hi2 (List.getElem?_eq_getElem hlt2)) hq
      have hn3 : nd ≠ l := by
        intro e
        subst e
        have e1 := (List.getElem?_eq_some_iff.mp hi2)
        have e2 := (List.getElem?_eq_some_iff.mp hi)
        obtain ⟨b1, b2⟩ := e1
        obtain ⟨d1, d2⟩ := e2
        have := (List.getElem?_inj (i := i) (j := ns.length - 1) b1 h3).mp (by rw [hi2, hi])
        omega
      rw [gset_n _ hn1, gset_n _ hn3, gset_n _ hn2]
theorem c_J4_add {G : yH} {τ : Nat × Nat} {a : Nat} {xs : List (Option Nat)} {x : Option Nat} (h : isLL G τ a xs) : Ct_J4_add Γ 3 1 3 [.ref a, va_rf x] G (fun r G' => r = some (.int (iI 1)) ∧ isLL G' τ a (xs ++ [x]) ∧ gK (· = τ) G G') noX := by
  have h0 := h
  obtain ⟨mc, ns, h⟩ := h
  refine y_start (lv0 := [some (.ref a), some (va_rf x)]) (nm := "add") (own := RJ4) (by decide +kernel) rfl rfl (by first | exact Nat.le_of_ble_eq_true rfl | (simp only [yArgs, va_cat_rf]; simp [Value.category])) (by first | rfl | (simp only [yArgs, va_cat_rf]; simp [Value.category])) ?_
  intro Z Q E F
  first | refine y_ald_n E dJ4_add_0 (by rfl) ?_ | refine y_aload_n E dJ4_add_0 (by rfl) ?_
  first | refine y_ald_n E dJ4_add_1 (by rfl) ?_ | refine y_aload_n E dJ4_add_1 (by rfl) ?_
  refine y_callV E dJ4_add_2 lk_J4_57 (c_J4_linkLast h0) (by rfl) h.1 rfl (by decide) (by omega) (by omega) rfl (Nat.le_of_ble_eq_true rfl) ?_ (fun _ _ _ h => h.elim)
  rintro v G1 ⟨rfl, h1, h2⟩
  refine y_iconst E dJ4_add_5 ?_
  refine y_ireturn E F rfl (nar_z (Or.inr rfl)) dJ4_add_6 (by omega) (by omega) ⟨rfl, h1, h2⟩
theorem c_J4_addLast {G : yH} {τ : Nat × Nat} {a : Nat} {xs : List (Option Nat)} {x : Option Nat} (h : isLL G τ a xs) : Ct_J4_addLast Γ 3 1 3 [.ref a, va_rf x] G (fun r G' => r = none ∧ isLL G' τ a (xs ++ [x]) ∧ gK (· = τ) G G') noX := by
  have h0 := h
  obtain ⟨mc, ns, h⟩ := h
  refine y_start (lv0 := [some (.ref a), some (va_rf x)]) (nm := "addLast") (own := RJ4) (by decide +kernel) rfl rfl (by first | exact Nat.le_of_ble_eq_true rfl | (simp only [yArgs, va_cat_rf]; simp [Value.category])) (by first | rfl | (simp only [yArgs, va_cat_rf]; simp [Value.category])) ?_
  intro Z Q E F
  first | refine y_ald_n E dJ4_addLast_0 (by rfl) ?_ | refine y_aload_n E dJ4_addLast_0 (by rfl) ?_
  first | refine y_ald_n E dJ4_addLast_1 (by rfl) ?_ | refine y_aload_n E dJ4_addLast_1 (by rfl) ?_
  refine y_callV E dJ4_addLast_2 lk_J4_57 (c_J4_linkLast h0) (by rfl) h.1 rfl (by decide) (by omega) (by omega) rfl (Nat.le_of_ble_eq_true rfl) ?_ (fun _ _ _ h => h.elim)
  rintro v G1 ⟨rfl, h1, h2⟩
  refine y_return E F rfl dJ4_addLast_5 (by omega) (by omega) ⟨rfl, h1, h2⟩
end LL
