/-! ===== LinkedList: unlink, ListItr.remove (printed by gen30.py) ===== -/
theorem head_eraseIdx {ns : List Nat} {k : Nat} (hk : k < ns.length) : (ns.eraseIdx k).head? = if k = 0 then ns[1]? else ns.head? := by
  rw [List.head?_eq_getElem?, List.getElem?_eraseIdx, List.head?_eq_getElem?]
  by_cases h : k = 0
  · simp [h]
  · rw [if_pos (by omega), if_neg h]
theorem last_eraseIdx {ns : List Nat} {k : Nat} (hk : k < ns.length) : (ns.eraseIdx k).getLast? = if k + 1 = ns.length then pvo ns k else ns.getLast? := by
  rw [List.getLast?_eq_getElem?, List.length_eraseIdx_of_lt hk, List.getElem?_eraseIdx, List.getLast?_eq_getElem?]
  unfold pvo
  by_cases h : k + 1 = ns.length
  · rw [if_pos h]
    by_cases h0 : k = 0
    · rw [if_pos h0, if_neg (by omega)]
      exact List.getElem?_eq_none (by omega)
    · rw [if_neg h0, if_pos (by omega)]
      congr 1
      omega
  · rw [if_neg h, if_neg (by omega)]
    congr 1
    omega
section LL5
variable {Γ : yG}
set_option maxHeartbeats 4000000
theorem c_J4_unlink {G : yH} {τ : Nat × Nat} {a q k : Nat} {mc : Int32} {x : Option Nat} {xs : List (Option Nat)} {ns : List Nat} (h : isLLn G τ a mc xs ns) (hq : ns[k]? = some q) (hx : xs[k]? = some x) : Ct_J4_unlink Γ 1 0 0 [.ref a, .ref q] G (fun r G' => r = some (va_rf x) ∧ isLLn G' τ a (mc + iI 1) (xs.eraseIdx k) (ns.eraseIdx k) ∧ gK (· = τ) G G') noX := by
  have hh := h
  obtain ⟨h1, h2, h3, h4⟩ := h
  have hk : k < ns.length := (List.getElem?_eq_some_iff.mp hq).1
  have hqa : q ≠ a := hh.nd_ne hq
  have hq0 := h4 k q x hq hx
  unfold llE at h1
  unfold ndE at hq0
  refine y_start (lv0 := [some (.ref a), some (.ref q), none, none, none]) (nm := "unlink") (own := RJ4) (by decide +kernel) rfl rfl (by first | exact Nat.le_of_ble_eq_true rfl | (simp only [yArgs, va_cat_rf]; simp [Value.category])) (by first | rfl | (simp only [yArgs, va_cat_rf]; simp [Value.category])) ?_
  intro Z Q E F
  first | refine y_ald_n E dJ4_unlink_0 (by rfl) ?_ | refine y_aload_n E dJ4_unlink_0 (by rfl) ?_
  refine y_get E dJ4_unlink_1 fl_J4_39_J36 (by assumption) (by rfl) ?_
  first | refine y_ast_n (j := 2) E dJ4_unlink_4 rfl (Nat.le_of_ble_eq_true rfl) ?_ | refine y_astore_n (j := 2) E dJ4_unlink_4 rfl (Nat.le_of_ble_eq_true rfl) ?_ | refine y_astore_n (j := 2) (r := none) E dJ4_unlink_4 rfl (Nat.le_of_ble_eq_true rfl) ?_
  simp only [lst1, lkill_rf, lkill_ref, lkill_int, lkill_no, lkill_null]
  first | refine y_ald_n E dJ4_unlink_5 (by rfl) ?_ | refine y_aload_n E dJ4_unlink_5 (by rfl) ?_
  refine y_get E dJ4_unlink_6 fl_J4_36_J36 (by assumption) (by rfl) ?_
  first | refine y_ast_n (j := 3) E dJ4_unlink_9 rfl (Nat.le_of_ble_eq_true rfl) ?_ | refine y_astore_n (j := 3) E dJ4_unlink_9 rfl (Nat.le_of_ble_eq_true rfl) ?_ | refine y_astore_n (j := 3) (r := none) E dJ4_unlink_9 rfl (Nat.le_of_ble_eq_true rfl) ?_
  simp only [lst1, lkill_rf, lkill_ref, lkill_int, lkill_no, lkill_null]
  first | refine y_ald_n E dJ4_unlink_10 (by rfl) ?_ | refine y_aload_n E dJ4_unlink_10 (by rfl) ?_
  refine y_get E dJ4_unlink_11 fl_J4_30_J36 (by assumption) (by rfl) ?_
  first | refine y_ast E dJ4_unlink_14 (Nat.le_of_ble_eq_true rfl) ?_ | refine y_astore E dJ4_unlink_14 (Nat.le_of_ble_eq_true rfl) ?_ | refine y_astore (r := none) E dJ4_unlink_14 (Nat.le_of_ble_eq_true rfl) ?_
  simp only [lst1, lkill_rf, lkill_ref, lkill_int, lkill_no, lkill_null]
  have hlast := last_eraseIdx hk
  have hhead := head_eraseIdx hk
  have fin : ∀ (G1 : yH) (fi la : Option Nat), G1 a = some (some τ, .inr (9, [.int mc, .int (iI xs.length), va_rf fi, va_rf la])) → fi = (ns.eraseIdx k).head? → la = (ns.eraseIdx k).getLast? → G1 q = some (some τ, .inr (10, [va_rf x, .null, .null])) → (∀ i nd y, i + 1 = k → ns[i]? = some nd → xs[i]? = some y → G1 nd = some (some τ, ndE y ns[k + 1]? (pvo ns i))) → (∀ nd y, ns[k + 1]? = some nd → xs[k + 1]? = some y → G1 nd = some (some τ, ndE y ns[k + 2]? (pvo ns k))) → (∀ i nd, i + 1 ≠ k → i ≠ k → i ≠ k + 1 → ns[i]? = some nd → G1 nd = G nd) → gK (· = τ) G G1 → ∀ lv3 lv4, Y Γ Z 0 0 Q G1 64 [some (.ref a), some (.ref q), some (va_rf x), lv3, lv4] [] := by
    intro G1 fi la g1 e1 e2 g2 g3 g4 g5 g6 lv3 lv4
    subst e1
    subst e2
    first | refine y_ald_n E dJ4_unlink_64 (by rfl) ?_ | refine y_aload_n E dJ4_unlink_64 (by rfl) ?_
    refine y_null E dJ4_unlink_65 ?_
    refine y_put E dJ4_unlink_66 fl_J4_39_J36 fw_J36_0 (by first | rfl | exact nar_r _ _) (by first | rfl | exact fit_r _ _) (by assumption) (Nat.le_of_ble_eq_true rfl) ?_
    first | refine y_ald_n E dJ4_unlink_69 (by rfl) ?_ | refine y_aload_n E dJ4_unlink_69 (by rfl) ?_
    refine y_dup E dJ4_unlink_70 rfl ?_
    refine y_get E dJ4_unlink_71 fl_J4_7_J4 (gs_n hqa.symm g1) (by rfl) ?_
    refine y_iconst E dJ4_unlink_74 ?_
    refine y_isub E dJ4_unlink_75 ?_
    refine y_put E dJ4_unlink_76 fl_J4_7_J4 fw_J4_1 rfl (by rfl) (gs_n hqa.symm g1) (Nat.le_of_ble_eq_true rfl) ?_
    first | refine y_ald_n E dJ4_unlink_79 (by rfl) ?_ | refine y_aload_n E dJ4_unlink_79 (by rfl) ?_
    refine y_dup E dJ4_unlink_80 rfl ?_
    refine y_get E dJ4_unlink_81 fl_J4_33_J4 (gset_s _ _ _) (by rfl) ?_
    refine y_iconst E dJ4_unlink_84 ?_
    refine y_iaddG E dJ4_unlink_85 ?_
    refine y_put E dJ4_unlink_86 fl_J4_33_J4 fw_J4_0 rfl (by rfl) (gset_s _ _ _) (Nat.le_of_ble_eq_true rfl) ?_
    refine y_heap (by rw [gset_gset]) ?_
    first | refine y_ald_n E dJ4_unlink_89 (by rfl) ?_ | refine y_aload_n E dJ4_unlink_89 (by rfl) ?_
    refine y_areturn E F rfl (Or.inl ⟨_, rfl⟩) dJ4_unlink_90 (by omega) (by omega) ⟨rfl, ?_, gK_t g6 (gK_t (gK_w _ g2 rfl) (gK_w _ (gs_n hqa.symm g1) rfl))⟩
    refine hh.erase hk ?_ (fun i nd y e1 e2 e3 => ?_) (fun nd y e1 e2 => ?_) (fun i nd e1 e2 e3 e4 => ?_)
    · rw [gset_s]
      simp [llE, ← h2]
    · exact gs_n (hh.nd_ne e2) (gs_n (hh.nd_inj e2 hq (by omega)) (g3 i nd y e1 e2 e3))
    · exact gs_n (hh.nd_ne e1) (gs_n (hh.nd_inj e1 hq (by omega)) (g4 nd y e1 e2))
    · rw [gset_n _ (hh.nd_ne e4), gset_n _ (hh.nd_inj e4 hq e2)]
      exact g5 i nd e1 e2 e3 e4
  by_cases hk0 : k = 0
  · have hp : pvo ns k = none := by unfold pvo; rw [if_pos hk0]
    rw [hp] at hq0 hlast
    rw [if_pos hk0] at hhead
    refine y_lv (lv' := [some (.ref a), some (.ref q), some (va_rf x), some (va_rf ns[k + 1]?), some .null]) (by rw [hp]; rfl) ?_
    refine y_aload (r := none) E dJ4_unlink_16 (by rfl) ?_
    refine y_ifnonnull_n E dJ4_unlink_18 ?_
    first | refine y_ald_n E dJ4_unlink_21 (by rfl) ?_ | refine y_aload_n E dJ4_unlink_21 (by rfl) ?_
    first | refine y_ald_n E dJ4_unlink_22 (by rfl) ?_ | refine y_aload_n E dJ4_unlink_22 (by rfl) ?_
    refine y_put E dJ4_unlink_23 fl_J4_18_J4 fw_J4_2 (by first | rfl | exact nar_r _ _) (by first | rfl | exact fit_r _ _) (by assumption) (Nat.le_of_ble_eq_true rfl) ?_
    refine y_goto (tgt := 40) E dJ4_unlink_26 (by decide) ?_
    by_cases hkl : k + 1 = ns.length
    · have hn : ns[k + 1]? = none := List.getElem?_eq_none (by omega)
      rw [hn] at hq0
      rw [if_pos hkl] at hlast
      refine y_lv (lv' := [some (.ref a), some (.ref q), some (va_rf x), some .null, some .null]) (by rw [hn]; rfl) ?_
      refine y_aload_n (r := none) E dJ4_unlink_40 (by rfl) ?_
      refine y_ifnonnull_n E dJ4_unlink_41 ?_
      first | refine y_ald_n E dJ4_unlink_44 (by rfl) ?_ | refine y_aload_n E dJ4_unlink_44 (by rfl) ?_
      refine y_aload (r := none) E dJ4_unlink_45 (by rfl) ?_
      refine y_put E dJ4_unlink_47 fl_J4_27_J4 fw_J4_3 (by first | rfl | exact nar_r _ _) (by first | rfl | exact fit_r _ _) (gset_s _ _ _) (Nat.le_of_ble_eq_true rfl) ?_
      refine y_goto (tgt := 64) E dJ4_unlink_50 (by decide) ?_
      refine y_heap (gset_gset _ _ _ _) ?_
      refine fin _ ns[k + 1]? none ?_ (by rw [hhead, hk0]) hlast.symm (gs_n hqa hq0) (fun i nd y e => by omega) (fun nd y e => by rw [hn] at e; cases e) (fun i nd e1 e2 e3 e4 => gset_n _ (hh.nd_ne e4)) (gK_w _ h1 rfl) _ _
      rw [gset_s]
      rfl
    · have hn : ns[k + 1]? = some (ns[k + 1]'(by omega)) := List.getElem?_eq_getElem _
      generalize ns[k + 1]'(by omega) = w at hn
      obtain ⟨x1, hx1, hg1⟩ := hh.at hn
      have hwa : w ≠ a := hh.nd_ne hn
      have hwq : w ≠ q := hh.nd_inj hn hq (by omega)
      rw [hn] at hq0
      rw [if_neg hkl] at hlast
      unfold ndE at hg1
      refine y_lv (lv' := [some (.ref a), some (.ref q), some (va_rf x), some (.ref w), some .null]) (by rw [hn]; rfl) ?_
      first | refine y_ald_n E dJ4_unlink_40 (by rfl) ?_ | refine y_aload_n E dJ4_unlink_40 (by rfl) ?_
      refine y_ifnonnull_r (tgt := 53) E dJ4_unlink_41 (by decide) ?_
      first | refine y_ald_n E dJ4_unlink_53 (by rfl) ?_ | refine y_aload_n E dJ4_unlink_53 (by rfl) ?_
      refine y_aload (r := none) E dJ4_unlink_54 (by rfl) ?_
      refine y_put E dJ4_unlink_56 fl_J4_30_J36 fw_J36_2 (by first | rfl | exact nar_r _ _) (by first | rfl | exact fit_r _ _) (gs_n hwa hg1) (Nat.le_of_ble_eq_true rfl) ?_
      first | refine y_ald_n E dJ4_unlink_59 (by rfl) ?_ | refine y_aload_n E dJ4_unlink_59 (by rfl) ?_
      refine y_null E dJ4_unlink_60 ?_
      refine y_put E dJ4_unlink_61 fl_J4_36_J36 fw_J36_1 (by first | rfl | exact nar_r _ _) (by first | rfl | exact fit_r _ _) (gs_n hwq.symm (gs_n hqa hq0)) (Nat.le_of_ble_eq_true rfl) ?_
      refine fin _ ns[k + 1]? ns.getLast? ?_ (by rw [hhead, hk0]) hlast.symm (gset_s _ _ _) (fun i nd y e => by omega) (fun nd y e e2 => ?_) (fun i nd e1 e2 e3 e4 => ?_) (gK_t (gK_w _ h1 rfl) (gK_t (gK_w _ (gs_n hwa hg1) rfl) (gK_w _ (gs_n hwq.symm (gs_n hqa hq0)) rfl))) _ _
      · exact gs_n hqa.symm (gs_n hwa.symm (gset_s _ _ _))
      · rw [hn] at e
        cases e
        rw [hx1] at e2
        cases e2
        rw [hp]
        exact gs_n hwq (gset_s _ _ _)
      · rw [gset_n _ (hh.nd_inj e4 hq e2), gset_n _ (hh.nd_inj e4 hn e3), gset_n _ (hh.nd_ne e4)]
  · have hp : pvo ns k = some (ns[k - 1]'(by omega)) := by
      unfold pvo
      rw [if_neg hk0]
      exact List.getElem?_eq_getElem _
    have hp' : ns[k - 1]? = some (ns[k - 1]'(by omega)) := List.getElem?_eq_getElem _
    generalize ns[k - 1]'(by omega) = u at hp hp'
    obtain ⟨x0, hx0, hg0⟩ := hh.at hp'
    have hua : u ≠ a := hh.nd_ne hp'
    have huq : u ≠ q := hh.nd_inj hp' hq (by omega)
    rw [hp] at hq0 hlast
    rw [if_neg hk0] at hhead
    unfold ndE at hg0
    refine y_lv (lv' := [some (.ref a), some (.ref q), some (va_rf x), some (va_rf ns[k + 1]?), some (.ref u)]) (by rw [hp]; rfl) ?_
    first | refine y_ald E dJ4_unlink_16 (by rfl) ?_ | refine y_aload E dJ4_unlink_16 (by rfl) ?_
    refine y_ifnonnull_r (tgt := 29) E dJ4_unlink_18 (by decide) ?_
    first | refine y_ald E dJ4_unlink_29 (by rfl) ?_ | refine y_aload E dJ4_unlink_29 (by rfl) ?_
    first | refine y_ald_n E dJ4_unlink_31 (by rfl) ?_ | refine y_aload_n E dJ4_unlink_31 (by rfl) ?_
    refine y_put E dJ4_unlink_32 fl_J4_36_J36 fw_J36_1 (by first | rfl | exact nar_r _ _) (by first | rfl | exact fit_r _ _) (hg0) (Nat.le_of_ble_eq_true rfl) ?_
    first | refine y_ald_n E dJ4_unlink_35 (by rfl) ?_ | refine y_aload_n E dJ4_unlink_35 (by rfl) ?_
    refine y_null E dJ4_unlink_36 ?_
    refine y_put E dJ4_unlink_37 fl_J4_30_J36 fw_J36_2 (by first | rfl | exact nar_r _ _) (by first | rfl | exact fit_r _ _) (gs_n huq.symm hq0) (Nat.le_of_ble_eq_true rfl) ?_
    by_cases hkl : k + 1 = ns.length
    · have hn : ns[k + 1]? = none := List.getElem?_eq_none (by omega)
      rw [hn] at hq0
      rw [if_pos hkl] at hlast
      refine y_lv (lv' := [some (.ref a), some (.ref q), some (va_rf x), some .null, some (.ref u)]) (by rw [hn]; rfl) ?_
      refine y_aload_n (r := none) E dJ4_unlink_40 (by rfl) ?_
      refine y_ifnonnull_n E dJ4_unlink_41 ?_
      first | refine y_ald_n E dJ4_unlink_44 (by rfl) ?_ | refine y_aload_n E dJ4_unlink_44 (by rfl) ?_
      first | refine y_ald E dJ4_unlink_45 (by rfl) ?_ | refine y_aload E dJ4_unlink_45 (by rfl) ?_
      refine y_put E dJ4_unlink_47 fl_J4_27_J4 fw_J4_3 (by first | rfl | exact nar_r _ _) (by first | rfl | exact fit_r _ _) (gs_n hqa.symm (gs_n hua.symm h1)) (Nat.le_of_ble_eq_true rfl) ?_
      refine y_goto (tgt := 64) E dJ4_unlink_50 (by decide) ?_
      refine fin _ ns.head? (some u) (gset_s _ _ _) hhead.symm hlast.symm ?_ (fun i nd y e1 e2 e3 => ?_) (fun nd y e => by rw [hn] at e; cases e) (fun i nd e1 e2 e3 e4 => ?_) (gK_t (gK_w _ hg0 rfl) (gK_t (gK_w _ (gs_n huq.symm hq0) rfl) (gK_w _ (gs_n hqa.symm (gs_n hua.symm h1)) rfl))) _ _
      · refine gs_n hqa ?_
        rw [gset_s, hn]
        rfl
      · have : i = k - 1 := by omega
        subst this
        rw [hp'] at e2
        cases e2
        rw [hx0] at e3
        cases e3
        exact gs_n hua (gs_n huq (gset_s _ _ _))
      · rw [gset_n _ (hh.nd_ne e4), gset_n _ (hh.nd_inj e4 hq e2), gset_n _ (hh.nd_inj e4 hp' (by omega))]
    · have hn : ns[k + 1]? = some (ns[k + 1]'(by omega)) := List.getElem?_eq_getElem _
      generalize ns[k + 1]'(by omega) = w at hn
      obtain ⟨x1, hx1, hg1⟩ := hh.at hn
      have hwa : w ≠ a := hh.nd_ne hn
      have hwq : w ≠ q := hh.nd_inj hn hq (by omega)
      have hwu : w ≠ u := hh.nd_inj hn hp' (by omega)
      rw [hn] at hq0
      rw [if_neg hkl] at hlast
      unfold ndE at hg1
      refine y_lv (lv' := [some (.ref a), some (.ref q), some (va_rf x), some (.ref w), some (.ref u)]) (by rw [hn]; rfl) ?_
      first | refine y_ald_n E dJ4_unlink_40 (by rfl) ?_ | refine y_aload_n E dJ4_unlink_40 (by rfl) ?_
      refine y_ifnonnull_r (tgt := 53) E dJ4_unlink_41 (by decide) ?_
      first | refine y_ald_n E dJ4_unlink_53 (by rfl) ?_ | refine y_aload_n E dJ4_unlink_53 (by rfl) ?_
      first | refine y_ald E dJ4_unlink_54 (by rfl) ?_ | refine y_aload E dJ4_unlink_54 (by rfl) ?_
      refine y_put E dJ4_unlink_56 fl_J4_30_J36 fw_J36_2 (by first | rfl | exact nar_r _ _) (by first | rfl | exact fit_r _ _) (gs_n hwq (gs_n hwu hg1)) (Nat.le_of_ble_eq_true rfl) ?_
      first | refine y_ald_n E dJ4_unlink_59 (by rfl) ?_ | refine y_aload_n E dJ4_unlink_59 (by rfl) ?_
      refine y_null E dJ4_unlink_60 ?_
      refine y_put E dJ4_unlink_61 fl_J4_36_J36 fw_J36_1 (by first | rfl | exact nar_r _ _) (by first | rfl | exact fit_r _ _) (gs_n hwq.symm (gset_s _ _ _)) (Nat.le_of_ble_eq_true rfl) ?_
      refine fin _ ns.head? ns.getLast? ?_ hhead.symm hlast.symm ?_ (fun i nd y e1 e2 e3 => ?_) (fun nd y e e2 => ?_) (fun i nd e1 e2 e3 e4 => ?_) (gK_t (gK_w _ hg0 rfl) (gK_t (gK_w _ (gs_n huq.symm hq0) rfl) (gK_t (gK_w _ (gs_n hwq (gs_n hwu hg1)) rfl) (gK_w _ (gs_n hwq.symm (gset_s _ _ _)) rfl)))) _ _
      · exact gs_n hqa.symm (gs_n hwa.symm (gs_n hqa.symm (gs_n hua.symm h1)))
      · rw [gset_s]
        rfl
      · have : i = k - 1 := by omega
        subst this
        rw [hp'] at e2
        cases e2
        rw [hx0] at e3
        cases e3
        rw [hn]
        exact gs_n huq (gs_n hwu.symm (gs_n huq (gset_s _ _ _)))
      · rw [hn] at e
        cases e
        rw [hx1] at e2
        cases e2
        rw [hp]
        exact gs_n hwq (gset_s _ _ _)
      · rw [gset_n _ (hh.nd_inj e4 hq e2), gset_n _ (hh.nd_inj e4 hn e3), gset_n _ (hh.nd_inj e4 hq e2), gset_n _ (hh.nd_inj e4 hp' (by omega))]
end LL5
