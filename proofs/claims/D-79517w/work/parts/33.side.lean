/-! ===== Side.has, Object.equals, LinkedList.indexOf ===== -/
section SideHas
variable {Γ : yG}
theorem lu_J4_67_X5 : LUU RJ4 67 RX5 "java/lang/Object" yJ44_equals yJ44_equals object_method_4_code 2 (some .boolean) 1 := ⟨q2433, q2383, Or.inr ⟨q2382, _, _, _, q2412⟩, q2386, q2382, q2412, by decide +kernel, by decide +kernel, by decide⟩
theorem lu_X2_96_X9 : LUU RX2 96 "SkerryLights$Side$1" "SkerryLights$Side" ⟨"SkerryLights$Side", "has", "(II)Z"⟩ yX9_has prog_7_method_2_code 3 (some .boolean) 2 := ⟨q1263, q1265, Or.inl q1264, q1266, q1267, q1268, by decide +kernel, by decide +kernel, by decide⟩
theorem lu_X2_96_X10 : LUU RX2 96 "SkerryLights$Side$2" "SkerryLights$Side" ⟨"SkerryLights$Side", "has", "(II)Z"⟩ yX10_has prog_8_method_2_code 3 (some .boolean) 2 := ⟨q1263, q1265, Or.inl q1264, q1269, q1270, q1271, by decide +kernel, by decide +kernel, by decide⟩
theorem lu_X2_96_X11 : LUU RX2 96 "SkerryLights$Side$3" "SkerryLights$Side" ⟨"SkerryLights$Side", "has", "(II)Z"⟩ yX11_has prog_9_method_2_code 3 (some .boolean) 2 := ⟨q1263, q1265, Or.inl q1264, q1272, q1273, q1274, by decide +kernel, by decide +kernel, by decide⟩
set_option maxHeartbeats 4000000
theorem cu_equals {G : yH} {a b : Nat} : CtU Γ yJ44_equals object_method_4_code 2 (some .boolean) 1 0 0 [.ref a, .ref b] G (fun r G' => r = some (.int (iI (b2i (decide (a = b))))) ∧ G' = G) := by
  intro Z Q E F
  refine y_lv (lv' := [some (.ref a), some (.ref b)]) (by rfl) ?_
  first | refine y_ald_n E dJ44_equals_0 (by rfl) ?_ | refine y_aload_n E dJ44_equals_0 (by rfl) ?_
  first | refine y_ald_n E dJ44_equals_1 (by rfl) ?_ | refine y_aload_n E dJ44_equals_1 (by rfl) ?_
  refine y_eq (st' := [va_rf (some b), va_rf (some a)]) rfl ?_
  refine y_acmp_ne  (tgt := 9) E dJ44_equals_2 (by decide) (fun h2 => ?_) (fun h2 => ?_)
  · refine y_iconst E dJ44_equals_9 ?_
    refine y_top (v' := .int (iI (b2i (decide (a = b))))) (by rw [decide_eq_false (fun e => h2 (by rw [e]))]; rfl) ?_
    refine y_ireturn E F rfl (nar_b _) dJ44_equals_10 (by omega) (by omega) ⟨rfl, rfl⟩
  · refine y_iconst E dJ44_equals_5 ?_
    refine y_goto (tgt := 10) E dJ44_equals_6 (by decide) ?_
    refine y_top (v' := .int (iI (b2i (decide (a = b))))) (by rw [decide_eq_true (Option.some.inj h2)]; rfl) ?_
    refine y_ireturn E F rfl (nar_b _) dJ44_equals_10 (by omega) (by omega) ⟨rfl, rfl⟩
/-- is the place to on the side sd of the place fr -/
def yHas (sd : Nat) (fr to : Int) : Bool := if sd = 0 then true else if sd = 1 then decide (to ≤ fr) else decide (fr ≤ to)
theorem cu_has1 {G : yH} {a : Nat} {x y : Int} : CtU Γ yX9_has prog_7_method_2_code 3 (some .boolean) 1 0 0 [.ref a, .int (iI x), .int (iI y)] G (fun r G' => r = some (.int (iI (b2i (yHas 0 x y)))) ∧ G' = G) := by
  intro Z Q E F
  refine y_lv (lv' := [some (.ref a), some (.int (iI x)), some (.int (iI y))]) (by rfl) ?_
  refine y_iconst E dX9_has_0 ?_
  refine y_top (v' := .int (iI (b2i (yHas 0 x y)))) rfl ?_
  refine y_ireturn E F rfl (nar_b _) dX9_has_1 (by omega) (by omega) ⟨rfl, rfl⟩
theorem cu_has2 {G : yH} {a : Nat} {x y : Int} (hx : inR x) (hy : inR y) : CtU Γ yX10_has prog_8_method_2_code 3 (some .boolean) 1 0 0 [.ref a, .int (iI x), .int (iI y)] G (fun r G' => r = some (.int (iI (b2i (yHas 1 x y)))) ∧ G' = G) := by
  intro Z Q E F
  refine y_lv (lv' := [some (.ref a), some (.int (iI x)), some (.int (iI y))]) (by rfl) ?_
  refine y_iload_n E dX10_has_0 (by rfl) ?_
  refine y_iload_n E dX10_has_1 (by rfl) ?_
  refine y_icmp_gt (tgt := 9) E dX10_has_2 (by decide) (by omega) (by omega) (fun h2 => ?_) (fun h2 => ?_)
  · refine y_iconst E dX10_has_9 ?_
    refine y_top (v' := .int (iI (b2i (yHas 1 x y)))) (by simp only [yHas]; rw [if_neg (by decide)]; show _ = Value.int (iI (b2i (decide (y ≤ x)))); rw [decide_eq_false (by omega)]; rfl) ?_
    refine y_ireturn E F rfl (nar_b _) dX10_has_10 (by omega) (by omega) ⟨rfl, rfl⟩
  · refine y_iconst E dX10_has_5 ?_
    refine y_goto (tgt := 10) E dX10_has_6 (by decide) ?_
    refine y_top (v' := .int (iI (b2i (yHas 1 x y)))) (by simp only [yHas]; rw [if_neg (by decide)]; show _ = Value.int (iI (b2i (decide (y ≤ x)))); rw [decide_eq_true (by omega)]; rfl) ?_
    refine y_ireturn E F rfl (nar_b _) dX10_has_10 (by omega) (by omega) ⟨rfl, rfl⟩
theorem cu_has3 {G : yH} {a : Nat} {x y : Int} (hx : inR x) (hy : inR y) : CtU Γ yX11_has prog_9_method_2_code 3 (some .boolean) 1 0 0 [.ref a, .int (iI x), .int (iI y)] G (fun r G' => r = some (.int (iI (b2i (yHas 2 x y)))) ∧ G' = G) := by
  intro Z Q E F
  refine y_lv (lv' := [some (.ref a), some (.int (iI x)), some (.int (iI y))]) (by rfl) ?_
  refine y_iload_n E dX11_has_0 (by rfl) ?_
  refine y_iload_n E dX11_has_1 (by rfl) ?_
  refine y_icmp_lt (tgt := 9) E dX11_has_2 (by decide) (by omega) (by omega) (fun h2 => ?_) (fun h2 => ?_)
  · refine y_iconst E dX11_has_9 ?_
    refine y_top (v' := .int (iI (b2i (yHas 2 x y)))) (by simp only [yHas]; rw [if_neg (by decide), if_neg (by decide), decide_eq_false (by omega)]; rfl) ?_
    refine y_ireturn E F rfl (nar_b _) dX11_has_10 (by omega) (by omega) ⟨rfl, rfl⟩
  · refine y_iconst E dX11_has_5 ?_
    refine y_goto (tgt := 10) E dX11_has_6 (by decide) ?_
    refine y_top (v' := .int (iI (b2i (yHas 2 x y)))) (by simp only [yHas]; rw [if_neg (by decide), if_neg (by decide), decide_eq_true (by omega)]; rfl) ?_
    refine y_ireturn E F rfl (nar_b _) dX11_has_10 (by omega) (by omega) ⟨rfl, rfl⟩
theorem c_J4_indexOf {G : yH} {τ : Nat × Nat} {a b j : Nat} {t : yT} {fs : List Value} {ys : List Nat} (h : isLL G τ a (ys.map some)) (hb : G b = some (t, .inr (1, fs))) (hj : ys[j]? = some b) (hlt : ∀ i, i < j → ys[i]? ≠ some b) (hn : ys.length ≤ 60000) : Ct_J4_indexOf Γ 2 0 0 [.ref a, .ref b] G (fun r G' => r = some (.int (iI j)) ∧ G' = G) noX := by
  obtain ⟨mc, ns, h⟩ := h
  have hh := h
  obtain ⟨h1, h2, h3, h4⟩ := h
  unfold llE at h1
  have hl : ns.length = ys.length := by simpa using h2
  have hjl : j < ys.length := (List.getElem?_eq_some_iff.mp hj).1
  refine y_start (lv0 := [some (.ref a), some (.ref b), none, none]) (nm := "indexOf") (own := RJ4) (by decide +kernel) rfl rfl (by first | exact Nat.le_of_ble_eq_true rfl | (simp only [yArgs, va_cat_rf]; simp [Value.category])) (by first | rfl | (simp only [yArgs, va_cat_rf]; simp [Value.category])) ?_
  intro Z Q E F
  refine y_iconst E dJ4_indexOf_0 ?_
  refine y_istore_n (j := 2) E dJ4_indexOf_1 rfl (Nat.le_of_ble_eq_true rfl) ?_
  simp only [lst1, lkill_rf, lkill_ref, lkill_int, lkill_no, lkill_null]
  first | refine y_ald_n E dJ4_indexOf_2 (by rfl) ?_ | refine y_aload_n E dJ4_indexOf_2 (by rfl) ?_
  refine y_ifnonnull_r (tgt := 38) E dJ4_indexOf_3 (by decide) ?_
  first | refine y_ald_n E dJ4_indexOf_38 (by rfl) ?_ | refine y_aload_n E dJ4_indexOf_38 (by rfl) ?_
  refine y_get E dJ4_indexOf_39 fl_J4_18_J4 (by assumption) (by rfl) ?_
  first | refine y_ast_n (j := 3) E dJ4_indexOf_42 rfl (Nat.le_of_ble_eq_true rfl) ?_ | refine y_astore_n (j := 3) E dJ4_indexOf_42 rfl (Nat.le_of_ble_eq_true rfl) ?_ | refine y_astore_n (j := 3) (r := none) E dJ4_indexOf_42 rfl (Nat.le_of_ble_eq_true rfl) ?_
  simp only [lst1, lkill_rf, lkill_ref, lkill_int, lkill_no, lkill_null]
  have loop : ∀ (d i : Nat), i + d = j → Y Γ Z 0 0 Q G 43 [some (.ref a), some (.ref b), some (.int (iI i)), some (va_rf ns[i]?)] [] := by
    intro d
    induction d with
    | zero =>
      intro i hi
      have hi : i = j := by omega
      subst hi
      obtain ⟨nd, hnd⟩ : ∃ nd, ns[i]? = some nd := ⟨_, List.getElem?_eq_getElem (by omega)⟩
      obtain ⟨x, hx, hg⟩ := hh.at hnd
      have hx' : x = some b := by
        rw [List.getElem?_map, hj] at hx
        exact (Option.some.inj hx).symm
      subst hx'
      unfold ndE at hg
      rw [hnd]
      refine y_lv (lv' := [some (.ref a), some (.ref b), some (.int (iI i)), some (.ref nd)]) rfl ?_
      first | refine y_ald_n E dJ4_indexOf_43 (by rfl) ?_ | refine y_aload_n E dJ4_indexOf_43 (by rfl) ?_
      refine y_ifnull_r E dJ4_indexOf_44 ?_
      first | refine y_ald_n E dJ4_indexOf_47 (by rfl) ?_ | refine y_aload_n E dJ4_indexOf_47 (by rfl) ?_
      first | refine y_ald_n E dJ4_indexOf_48 (by rfl) ?_ | refine y_aload_n E dJ4_indexOf_48 (by rfl) ?_
      refine y_get E dJ4_indexOf_49 fl_J4_39_J36 (by assumption) (by rfl) ?_
      refine y_callUU E dJ4_indexOf_52 lu_J4_67_X5 (cu_equals (a := b) (b := b)) (by rfl) hb rfl (by decide) (by omega) (by omega) rfl (Nat.le_of_ble_eq_true rfl) (Nat.le_of_ble_eq_true rfl) ?_
      rintro v G' ⟨rfl, rfl⟩
      refine y_eq (st' := [.int (iI (b2i (decide (b = b))))]) rfl ?_
      refine y_ifb_eq (tgt := 60) E dJ4_indexOf_55 (by decide) (fun hq => ?_) (fun hq => ?_)
      · simp at hq
      · refine y_iload_n E dJ4_indexOf_58 (by rfl) ?_
        refine y_ireturn E F rfl rfl dJ4_indexOf_59 (by omega) (by omega) ⟨rfl, rfl⟩
    | succ d ih =>
      intro i hi
      obtain ⟨nd, hnd⟩ : ∃ nd, ns[i]? = some nd := ⟨_, List.getElem?_eq_getElem (by omega)⟩
      obtain ⟨c, hc⟩ : ∃ c, ys[i]? = some c := ⟨_, List.getElem?_eq_getElem (by omega)⟩
      have hcb : b ≠ c := fun e => hlt i (by omega) (by rw [e]; exact hc)
      obtain ⟨x, hx, hg⟩ := hh.at hnd
      have hx' : x = some c := by
        rw [List.getElem?_map, hc] at hx
        exact (Option.some.inj hx).symm
      subst hx'
      unfold ndE at hg
      rw [hnd]
      refine y_lv (lv' := [some (.ref a), some (.ref b), some (.int (iI i)), some (.ref nd)]) rfl ?_
      first | refine y_ald_n E dJ4_indexOf_43 (by rfl) ?_ | refine y_aload_n E dJ4_indexOf_43 (by rfl) ?_
      refine y_ifnull_r E dJ4_indexOf_44 ?_
      first | refine y_ald_n E dJ4_indexOf_47 (by rfl) ?_ | refine y_aload_n E dJ4_indexOf_47 (by rfl) ?_
      first | refine y_ald_n E dJ4_indexOf_48 (by rfl) ?_ | refine y_aload_n E dJ4_indexOf_48 (by rfl) ?_
      refine y_get E dJ4_indexOf_49 fl_J4_39_J36 (by assumption) (by rfl) ?_
      refine y_callUU E dJ4_indexOf_52 lu_J4_67_X5 (cu_equals (a := b) (b := c)) (by rfl) hb rfl (by decide) (by omega) (by omega) rfl (Nat.le_of_ble_eq_true rfl) (Nat.le_of_ble_eq_true rfl) ?_
      rintro v G' ⟨rfl, rfl⟩
      refine y_eq (st' := [.int (iI (b2i (decide (b = c))))]) rfl ?_
      refine y_ifb_eq (tgt := 60) E dJ4_indexOf_55 (by decide) (fun hq => ?_) (fun hq => ?_)
      · refine y_iinc E dJ4_indexOf_60 (by rfl) ?_
        first | refine y_ald_n E dJ4_indexOf_63 (by rfl) ?_ | refine y_aload_n E dJ4_indexOf_63 (by rfl) ?_
        refine y_get E dJ4_indexOf_64 fl_J4_36_J36 (by assumption) (by rfl) ?_
        first | refine y_ast_n (j := 3) E dJ4_indexOf_67 rfl (Nat.le_of_ble_eq_true rfl) ?_ | refine y_astore_n (j := 3) E dJ4_indexOf_67 rfl (Nat.le_of_ble_eq_true rfl) ?_ | refine y_astore_n (j := 3) (r := none) E dJ4_indexOf_67 rfl (Nat.le_of_ble_eq_true rfl) ?_
        simp only [lst1, lkill_rf, lkill_ref, lkill_int, lkill_no, lkill_null]
        refine y_goto (tgt := 43) E dJ4_indexOf_68 (by decide) ?_
        refine y_lv (lv' := [some (.ref a), some (.ref b), some (.int (iI ((i + 1 : Nat) : Int))), some (va_rf ns[i + 1]?)]) rfl (ih (i + 1) (by omega))
      · exact absurd (of_decide_eq_true hq) hcb
  refine y_lv (lv' := [some (.ref a), some (.ref b), some (.int (iI ((0 : Nat) : Int))), some (va_rf ns[0]?)]) (by rw [← List.head?_eq_getElem?]; rfl) (loop j 0 (by omega))
end SideHas
