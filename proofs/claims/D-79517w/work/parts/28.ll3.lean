/-! ===== LinkedList: making, getting, clearing, iterators ===== -/
theorem iI_shr {n : Int} (s : Nat) (h0 : 0 ≤ n) (h : n ≤ 2147483647) (hs : s < 31) : iI n >>> (iI (s : Int) &&& 31) = iI (n / (2 ^ s : Nat)) := by
  have e : iI n = nI n.toNat := by rw [iI_nI]; congr 1; omega
  have hk : ∀ s, s < 31 → ((iI ((s : Nat) : Int) &&& 31).toBitVec.smod 32).toNat = s := by decide
  rw [e, pk_shrN (by omega) _ s (hk s hs), iI_nI]
  congr 1
  rw [Int.natCast_ediv]
  congr 1
  omega
section LL3
variable {Γ : yG}
set_option maxHeartbeats 4000000
theorem c_J3_init {G : yH} {a : Nat} {τ : Nat × Nat} {v1 v2 v3 v4 : Value} (h : G a = some (some τ, .inr (9, [v1, v2, v3, v4]))) : Ct_J3_init Γ 3 0 0 [.ref a] G (fun r G' => r = none ∧ G' = gset G a (some τ, .inr (9, [.int (iI 0), v2, v3, v4]))) noX := by
  refine y_start (lv0 := [some (.ref a)]) (nm := "<init>") (own := RJ3) (by decide +kernel) rfl rfl (by first | exact Nat.le_of_ble_eq_true rfl | (simp only [yArgs, va_cat_rf]; simp [Value.category])) (by first | rfl | (simp only [yArgs, va_cat_rf]; simp [Value.category])) ?_
  intro Z Q E F
  first | refine y_ald_n E dJ3_init_0 (by rfl) ?_ | refine y_aload_n E dJ3_init_0 (by rfl) ?_
  refine y_callI E dJ3_init_1 lk_J3_1 (c_J1_init_ll h) (by rfl) (by decide) (by omega) (by omega) rfl (Nat.le_of_ble_eq_true rfl) ?_ (fun _ _ _ h => h.elim)
  rintro v G1 ⟨rfl, rfl⟩
  refine y_return E F rfl dJ3_init_4 (by omega) (by omega) ⟨rfl, rfl⟩
theorem c_J4_init {G : yH} {a : Nat} {τ : Nat × Nat} (h : G a = some (some τ, .inr (9, [.int (iI 0), .int (iI 0), .null, .null]))) : Ct_J4_init Γ 4 0 0 [.ref a] G (fun r G' => r = none ∧ isLL G' τ a [] ∧ ∃ v, G' = gset G a (some τ, v)) noX := by
  refine y_start (lv0 := [some (.ref a)]) (nm := "<init>") (own := RJ4) (by decide +kernel) rfl rfl (by first | exact Nat.le_of_ble_eq_true rfl | (simp only [yArgs, va_cat_rf]; simp [Value.category])) (by first | rfl | (simp only [yArgs, va_cat_rf]; simp [Value.category])) ?_
  intro Z Q E F
  first | refine y_ald_n E dJ4_init_0 (by rfl) ?_ | refine y_aload_n E dJ4_init_0 (by rfl) ?_
  refine y_callI E dJ4_init_1 lk_J4_1 (c_J3_init h) (by rfl) (by decide) (by omega) (by omega) rfl (Nat.le_of_ble_eq_true rfl) ?_ (fun _ _ _ h => h.elim)
  rintro v G1 ⟨rfl, rfl⟩
  first | refine y_ald_n E dJ4_init_4 (by rfl) ?_ | refine y_aload_n E dJ4_init_4 (by rfl) ?_
  refine y_iconst E dJ4_init_5 ?_
  refine y_put E dJ4_init_6 fl_J4_7_J4 fw_J4_1 rfl (by rfl) (gset_s _ _ _) (Nat.le_of_ble_eq_true rfl) ?_
  refine y_heap (gset_gset _ _ _ _) ?_
  refine y_return E F rfl dJ4_init_9 (by omega) (by omega) ⟨rfl, ⟨iI 0, [], gset_s _ _ _, rfl, List.nodup_nil, fun i nd x e => by simp at e⟩, _, rfl⟩
theorem c_J4_isElementIndex {G : yH} {τ : Nat × Nat} {a : Nat} {xs : List (Option Nat)} {i : Int} (h : isLL G τ a xs) (hi : 0 ≤ i ∧ i < xs.length ∧ xs.length ≤ 60000) : Ct_J4_isElementIndex Γ 1 0 0 [.ref a, .int (iI i)] G (fun r G' => r = some (.int (iI 1)) ∧ G' = G) noX := by
  obtain ⟨mc, ns, h⟩ := h
  have h1 := h.1
  unfold llE at h1
  refine y_start (lv0 := [some (.ref a), some (.int (iI i))]) (nm := "isElementIndex") (own := RJ4) (by decide +kernel) rfl rfl (by first | exact Nat.le_of_ble_eq_true rfl | (simp only [yArgs, va_cat_rf]; simp [Value.category])) (by first | rfl | (simp only [yArgs, va_cat_rf]; simp [Value.category])) ?_
  intro Z Q E F
  refine y_iload_n E dJ4_isElementIndex_0 (by rfl) ?_
  refine y_if_lt (tgt := 16) E dJ4_isElementIndex_1 (by decide) (by omega) (fun h1' => ?_) (fun h1' => ?_)
  · exact absurd h1' (by omega)
  · refine y_iload_n E dJ4_isElementIndex_4 (by rfl) ?_
    first | refine y_ald_n E dJ4_isElementIndex_5 (by rfl) ?_ | refine y_aload_n E dJ4_isElementIndex_5 (by rfl) ?_
    refine y_get E dJ4_isElementIndex_6 fl_J4_7_J4 (by assumption) (by rfl) ?_
    refine y_icmp_ge (tgt := 16) E dJ4_isElementIndex_9 (by decide) (by omega) (by omega) (fun h9 => ?_) (fun h9 => ?_)
    · exact absurd h9 (by omega)
    · refine y_iconst E dJ4_isElementIndex_12 ?_
      refine y_goto (tgt := 17) E dJ4_isElementIndex_13 (by decide) ?_
      refine y_ireturn E F rfl (nar_z (by omega)) dJ4_isElementIndex_17 (by omega) (by omega) ⟨rfl, rfl⟩
theorem c_J4_isPositionIndex {G : yH} {τ : Nat × Nat} {a : Nat} {xs : List (Option Nat)} {i : Int} (h : isLL G τ a xs) (hi : 0 ≤ i ∧ i ≤ xs.length ∧ xs.length ≤ 60000) : Ct_J4_isPositionIndex Γ 1 0 0 [.ref a, .int (iI i)] G (fun r G' => r = some (.int (iI 1)) ∧ G' = G) noX := by
  obtain ⟨mc, ns, h⟩ := h
  have h1 := h.1
  unfold llE at h1
  refine y_start (lv0 := [some (.ref a), some (.int (iI i))]) (nm := "isPositionIndex") (own := RJ4) (by decide +kernel) rfl rfl (by first | exact Nat.le_of_ble_eq_true rfl | (simp only [yArgs, va_cat_rf]; simp [Value.category])) (by first | rfl | (simp only [yArgs, va_cat_rf]; simp [Value.category])) ?_
  intro Z Q E F
  refine y_iload_n E dJ4_isPositionIndex_0 (by rfl) ?_
  refine y_if_lt (tgt := 16) E dJ4_isPositionIndex_1 (by decide) (by omega) (fun h1' => ?_) (fun h1' => ?_)
  · exact absurd h1' (by omega)
  · refine y_iload_n E dJ4_isPositionIndex_4 (by rfl) ?_
    first | refine y_ald_n E dJ4_isPositionIndex_5 (by rfl) ?_ | refine y_aload_n E dJ4_isPositionIndex_5 (by rfl) ?_
    refine y_get E dJ4_isPositionIndex_6 fl_J4_7_J4 (by assumption) (by rfl) ?_
    refine y_icmp_gt (tgt := 16) E dJ4_isPositionIndex_9 (by decide) (by omega) (by omega) (fun h9 => ?_) (fun h9 => ?_)
    · exact absurd h9 (by omega)
    · refine y_iconst E dJ4_isPositionIndex_12 ?_
      refine y_goto (tgt := 17) E dJ4_isPositionIndex_13 (by decide) ?_
      refine y_ireturn E F rfl (nar_z (by omega)) dJ4_isPositionIndex_17 (by omega) (by omega) ⟨rfl, rfl⟩
theorem c_J4_checkElementIndex {G : yH} {τ : Nat × Nat} {a : Nat} {xs : List (Option Nat)} {i : Int} (h : isLL G τ a xs) (hi : 0 ≤ i ∧ i < xs.length ∧ xs.length ≤ 60000) : Ct_J4_checkElementIndex Γ 2 0 0 [.ref a, .int (iI i)] G (fun r G' => r = none ∧ G' = G) noX := by
  have h0 := h
  obtain ⟨mc, ns, h⟩ := h
  refine y_start (lv0 := [some (.ref a), some (.int (iI i))]) (nm := "checkElementIndex") (own := RJ4) (by decide +kernel) rfl rfl (by first | exact Nat.le_of_ble_eq_true rfl | (simp only [yArgs, va_cat_rf]; simp [Value.category])) (by first | rfl | (simp only [yArgs, va_cat_rf]; simp [Value.category])) ?_
  intro Z Q E F
  first | refine y_ald_n E dJ4_checkElementIndex_0 (by rfl) ?_ | refine y_aload_n E dJ4_checkElementIndex_0 (by rfl) ?_
  refine y_iload_n E dJ4_checkElementIndex_1 (by rfl) ?_
  refine y_callV E dJ4_checkElementIndex_2 lk_J4_115 (c_J4_isElementIndex (i := i) h0 hi) (by rfl) h.1 rfl (by decide) (by omega) (by omega) rfl (Nat.le_of_ble_eq_true rfl) ?_ (fun _ _ _ h => h.elim)
  rintro v G1 ⟨rfl, rfl⟩
  refine y_if_ne (tgt := 21) E dJ4_checkElementIndex_5 (by decide) (by omega) (fun h5 => ?_) (fun h5 => ?_)
  · refine y_return E F rfl dJ4_checkElementIndex_21 (by omega) (by omega) ⟨rfl, rfl⟩
  · exact absurd h5 (by omega)
theorem c_J4_checkPositionIndex {G : yH} {τ : Nat × Nat} {a : Nat} {xs : List (Option Nat)} {i : Int} (h : isLL G τ a xs) (hi : 0 ≤ i ∧ i ≤ xs.length ∧ xs.length ≤ 60000) : Ct_J4_checkPositionIndex Γ 2 0 0 [.ref a, .int (iI i)] G (fun r G' => r = none ∧ G' = G) noX := by
  have h0 := h
  obtain ⟨mc, ns, h⟩ := h
  refine y_start (lv0 := [some (.ref a), some (.int (iI i))]) (nm := "checkPositionIndex") (own := RJ4) (by decide +kernel) rfl rfl (by first | exact Nat.le_of_ble_eq_true rfl | (simp only [yArgs, va_cat_rf]; simp [Value.category])) (by first | rfl | (simp only [yArgs, va_cat_rf]; simp [Value.category])) ?_
  intro Z Q E F
  first | refine y_ald_n E dJ4_checkPositionIndex_0 (by rfl) ?_ | refine y_aload_n E dJ4_checkPositionIndex_0 (by rfl) ?_
  refine y_iload_n E dJ4_checkPositionIndex_1 (by rfl) ?_
  refine y_callV E dJ4_checkPositionIndex_2 lk_J4_128 (c_J4_isPositionIndex (i := i) h0 hi) (by rfl) h.1 rfl (by decide) (by omega) (by omega) rfl (Nat.le_of_ble_eq_true rfl) ?_ (fun _ _ _ h => h.elim)
  rintro v G1 ⟨rfl, rfl⟩
  refine y_if_ne (tgt := 21) E dJ4_checkPositionIndex_5 (by decide) (by omega) (fun h5 => ?_) (fun h5 => ?_)
  · refine y_return E F rfl dJ4_checkPositionIndex_21 (by omega) (by omega) ⟨rfl, rfl⟩
  · exact absurd h5 (by omega)
theorem c_J4_node {G : yH} {τ : Nat × Nat} {a nd : Nat} {mc : Int32} {xs : List (Option Nat)} {ns : List Nat} {i : Nat} (h : isLLn G τ a mc xs ns) (hi : ns[i]? = some nd) (hl : xs.length ≤ 60000) : Ct_J4_node Γ 1 0 0 [.ref a, .int (iI i)] G (fun r G' => r = some (.ref nd) ∧ G' = G) noX := by
  have h1 := h.1
  have hlt : i < ns.length := (List.getElem?_eq_some_iff.mp hi).1
  have hlen := h.2.1
  unfold llE at h1
  refine y_start (lv0 := [some (.ref a), some (.int (iI i)), none, none]) (nm := "node") (own := RJ4) (by decide +kernel) rfl rfl (by first | exact Nat.le_of_ble_eq_true rfl | (simp only [yArgs, va_cat_rf]; simp [Value.category])) (by first | rfl | (simp only [yArgs, va_cat_rf]; simp [Value.category])) ?_
  intro Z Q E F
  refine y_iload_n E dJ4_node_0 (by rfl) ?_
  first | refine y_ald_n E dJ4_node_1 (by rfl) ?_ | refine y_aload_n E dJ4_node_1 (by rfl) ?_
  refine y_get E dJ4_node_2 fl_J4_7_J4 (by assumption) (by rfl) ?_
  refine y_iconst E dJ4_node_5 ?_
  refine y_ishr E dJ4_node_6 (iI_shr 1 (by omega) (by omega) (by decide)) ?_
  refine y_icmp_ge (tgt := 35) E dJ4_node_7 (by decide) (by omega) (by omega) (fun hb => ?_) (fun hb => ?_)
  · have hla : ns.getLast? = some ns[ns.length - 1] := (List.getLast?_eq_getElem?).trans (List.getElem?_eq_getElem _)
    have loop : ∀ (d j : Nat) (q : Nat), i + d = j → j < ns.length → ns[j]? = some q → Y Γ Z 0 0 Q G 47 [some (.ref a), some (.int (iI i)), some (.ref q), some (.int (iI j))] [] := by
      intro d
      induction d with
      | zero =>
        intro j q hj hjl hq
        have : j = i := by omega
        subst this
        rw [hi] at hq
        cases hq
        refine y_iload_n E dJ4_node_47 (by rfl) ?_
        refine y_iload_n E dJ4_node_48 (by rfl) ?_
        refine y_icmp_le (tgt := 63) E dJ4_node_49 (by decide) (by omega) (by omega) (fun hh => ?_) (fun hh => ?_)
        · first | refine y_ald_n E dJ4_node_63 (by rfl) ?_ | refine y_aload_n E dJ4_node_63 (by rfl) ?_
          exact y_areturn (r := some nd) E F rfl (Or.inl ⟨_, rfl⟩) dJ4_node_64 (by omega) (by omega) ⟨rfl, rfl⟩
        · exact absurd hh (by omega)
      | succ d ih =>
        intro j q hj hjl hq
        obtain ⟨x, hx, hg⟩ := h.at hq
        have hp : pvo ns j = some ns[j - 1] := by
          unfold pvo
          rw [if_neg (by omega)]
          exact List.getElem?_eq_getElem _
        unfold ndE at hg
        rw [hp] at hg
        refine y_iload_n E dJ4_node_47 (by rfl) ?_
        refine y_iload_n E dJ4_node_48 (by rfl) ?_
        refine y_icmp_le (tgt := 63) E dJ4_node_49 (by decide) (by omega) (by omega) (fun hh => ?_) (fun hh => ?_)
        · exact absurd hh (by omega)
        · first | refine y_ald_n E dJ4_node_52 (by rfl) ?_ | refine y_aload_n E dJ4_node_52 (by rfl) ?_
          refine y_get E dJ4_node_53 fl_J4_30_J36 (by assumption) (by rfl) ?_
          refine y_top (v' := .ref ns[j - 1]) rfl ?_
          first | refine y_ast_n (j := 2) E dJ4_node_56 rfl (Nat.le_of_ble_eq_true rfl) ?_ | refine y_astore_n (j := 2) E dJ4_node_56 rfl (Nat.le_of_ble_eq_true rfl) ?_ | refine y_astore_n (j := 2) (r := none) E dJ4_node_56 rfl (Nat.le_of_ble_eq_true rfl) ?_
          simp only [lst1, lkill_rf, lkill_ref, lkill_int, lkill_no, lkill_null]
          refine y_iinc E dJ4_node_57 (by rfl) ?_
          refine y_goto (tgt := 47) E dJ4_node_60 (by decide) ?_
          refine y_lv (lv' := [some (.ref a), some (.int (iI i)), some (.ref ns[j - 1]), some (.int (iI ((j - 1 : Nat) : Int)))]) (by rw [show (((j - 1 : Nat) : Int)) = (j : Int) + -1 by omega]; rfl) ?_
          exact ih (j - 1) _ (by omega) (by omega) (List.getElem?_eq_getElem _)
    rw [hla] at h1
    first | refine y_ald_n E dJ4_node_35 (by rfl) ?_ | refine y_aload_n E dJ4_node_35 (by rfl) ?_
    refine y_get E dJ4_node_36 fl_J4_27_J4 (by assumption) (by rfl) ?_
    refine y_top (v' := .ref ns[ns.length - 1]) rfl ?_
    first | refine y_ast_n (j := 2) E dJ4_node_39 rfl (Nat.le_of_ble_eq_true rfl) ?_ | refine y_astore_n (j := 2) E dJ4_node_39 rfl (Nat.le_of_ble_eq_true rfl) ?_ | refine y_astore_n (j := 2) (r := none) E dJ4_node_39 rfl (Nat.le_of_ble_eq_true rfl) ?_
    simp only [lst1, lkill_rf, lkill_ref, lkill_int, lkill_no, lkill_null]
    first | refine y_ald_n E dJ4_node_40 (by rfl) ?_ | refine y_aload_n E dJ4_node_40 (by rfl) ?_
    refine y_get E dJ4_node_41 fl_J4_7_J4 (by assumption) (by rfl) ?_
    refine y_iconst E dJ4_node_44 ?_
    refine y_isub E dJ4_node_45 ?_
    refine y_istore_n (j := 3) E dJ4_node_46 rfl (Nat.le_of_ble_eq_true rfl) ?_
    simp only [lst1, lkill_rf, lkill_ref, lkill_int, lkill_no, lkill_null]
    refine y_lv (lv' := [some (.ref a), some (.int (iI i)), some (.ref ns[ns.length - 1]), some (.int (iI ((ns.length - 1 : Nat) : Int)))]) (by rw [show (((ns.length - 1 : Nat) : Int)) = (xs.length : Int) - 1 by omega]) ?_
    exact loop (ns.length - 1 - i) (ns.length - 1) _ (by omega) (by omega) (List.getElem?_eq_getElem _)
  · have hfi : ns.head? = some ns[0] := (List.head?_eq_getElem?).trans (List.getElem?_eq_getElem _)
    have loop : ∀ (d j : Nat) (q : Nat), j + d = i → ns[j]? = some q → Y Γ Z 0 0 Q G 17 [some (.ref a), some (.int (iI i)), some (.ref q), some (.int (iI j))] [] := by
      intro d
      induction d with
      | zero =>
        intro j q hj hq
        have : j = i := by omega
        subst this
        rw [hi] at hq
        cases hq
        refine y_iload_n E dJ4_node_17 (by rfl) ?_
        refine y_iload_n E dJ4_node_18 (by rfl) ?_
        refine y_icmp_ge (tgt := 33) E dJ4_node_19 (by decide) (by omega) (by omega) (fun hh => ?_) (fun hh => ?_)
        · first | refine y_ald_n E dJ4_node_33 (by rfl) ?_ | refine y_aload_n E dJ4_node_33 (by rfl) ?_
          exact y_areturn (r := some nd) E F rfl (Or.inl ⟨_, rfl⟩) dJ4_node_34 (by omega) (by omega) ⟨rfl, rfl⟩
        · exact absurd hh (by omega)
      | succ d ih =>
        intro j q hj hq
        obtain ⟨x, hx, hg⟩ := h.at hq
        have hp : ns[j + 1]? = some ns[j + 1] := List.getElem?_eq_getElem _
        unfold ndE at hg
        rw [hp] at hg
        refine y_iload_n E dJ4_node_17 (by rfl) ?_
        refine y_iload_n E dJ4_node_18 (by rfl) ?_
        refine y_icmp_ge (tgt := 33) E dJ4_node_19 (by decide) (by omega) (by omega) (fun hh => ?_) (fun hh => ?_)
        · exact absurd hh (by omega)
        · first | refine y_ald_n E dJ4_node_22 (by rfl) ?_ | refine y_aload_n E dJ4_node_22 (by rfl) ?_
          refine y_get E dJ4_node_23 fl_J4_36_J36 (by assumption) (by rfl) ?_
          refine y_top (v' := .ref ns[j + 1]) rfl ?_
          first | refine y_ast_n (j := 2) E dJ4_node_26 rfl (Nat.le_of_ble_eq_true rfl) ?_ | refine y_astore_n (j := 2) E dJ4_node_26 rfl (Nat.le_of_ble_eq_true rfl) ?_ | refine y_astore_n (j := 2) (r := none) E dJ4_node_26 rfl (Nat.le_of_ble_eq_true rfl) ?_
          simp only [lst1, lkill_rf, lkill_ref, lkill_int, lkill_no, lkill_null]
          refine y_iinc E dJ4_node_27 (by rfl) ?_
          refine y_goto (tgt := 17) E dJ4_node_30 (by decide) ?_
          exact ih (j + 1) _ (by omega) hp
    rw [hfi] at h1
    first | refine y_ald_n E dJ4_node_10 (by rfl) ?_ | refine y_aload_n E dJ4_node_10 (by rfl) ?_
    refine y_get E dJ4_node_11 fl_J4_18_J4 (by assumption) (by rfl) ?_
    refine y_top (v' := .ref ns[0]) rfl ?_
    first | refine y_ast_n (j := 2) E dJ4_node_14 rfl (Nat.le_of_ble_eq_true rfl) ?_ | refine y_astore_n (j := 2) E dJ4_node_14 rfl (Nat.le_of_ble_eq_true rfl) ?_ | refine y_astore_n (j := 2) (r := none) E dJ4_node_14 rfl (Nat.le_of_ble_eq_true rfl) ?_
    simp only [lst1, lkill_rf, lkill_ref, lkill_int, lkill_no, lkill_null]
    refine y_iconst E dJ4_node_15 ?_
    refine y_istore_n (j := 3) E dJ4_node_16 rfl (Nat.le_of_ble_eq_true rfl) ?_
    simp only [lst1, lkill_rf, lkill_ref, lkill_int, lkill_no, lkill_null]
    exact loop i 0 _ (by omega) (List.getElem?_eq_getElem _)
theorem c_J4_get {G : yH} {τ : Nat × Nat} {a : Nat} {x : Option Nat} {xs : List (Option Nat)} {i : Nat} (h : isLL G τ a xs) (hx : xs[i]? = some x) (hl : xs.length ≤ 60000) : Ct_J4_get Γ 3 0 0 [.ref a, .int (iI i)] G (fun r G' => r = some (va_rf x) ∧ G' = G) noX := by
  have h0 := h
  obtain ⟨mc, ns, h⟩ := h
  have hlt : i < xs.length := (List.getElem?_eq_some_iff.mp hx).1
  have hq : ns[i]? = some (ns[i]'(by have := h.2.1; omega)) := List.getElem?_eq_getElem _
  generalize ns[i]'(by have := h.2.1; omega) = q at hq
  obtain ⟨y, hy, hg⟩ := h.at hq
  rw [hx] at hy
  cases hy
  unfold ndE at hg
  refine y_start (lv0 := [some (.ref a), some (.int (iI i))]) (nm := "get") (own := RJ4) (by decide +kernel) rfl rfl (by first | exact Nat.le_of_ble_eq_true rfl | (simp only [yArgs, va_cat_rf]; simp [Value.category])) (by first | rfl | (simp only [yArgs, va_cat_rf]; simp [Value.category])) ?_
  intro Z Q E F
  first | refine y_ald_n E dJ4_get_0 (by rfl) ?_ | refine y_aload_n E dJ4_get_0 (by rfl) ?_
  refine y_iload_n E dJ4_get_1 (by rfl) ?_
  refine y_callV E dJ4_get_2 lk_J4_90 (c_J4_checkElementIndex (i := i) h0 (by omega)) (by rfl) h.1 rfl (by decide) (by omega) (by omega) rfl (Nat.le_of_ble_eq_true rfl) ?_ (fun _ _ _ h => h.elim)
  rintro v G1 ⟨rfl, rfl⟩
  first | refine y_ald_n E dJ4_get_5 (by rfl) ?_ | refine y_aload_n E dJ4_get_5 (by rfl) ?_
  refine y_iload_n E dJ4_get_6 (by rfl) ?_
  refine y_callV E dJ4_get_7 lk_J4_86 (c_J4_node (i := i) h hq hl) (by rfl) h.1 rfl (by decide) (by omega) (by omega) rfl (Nat.le_of_ble_eq_true rfl) ?_ (fun _ _ _ h => h.elim)
  rintro v G1 ⟨rfl, rfl⟩
  refine y_get E dJ4_get_10 fl_J4_39_J36 (by assumption) (by rfl) ?_
  exact y_areturn E F rfl (Or.inl ⟨_, rfl⟩) dJ4_get_13 (by omega) (by omega) ⟨rfl, rfl⟩
end LL3
