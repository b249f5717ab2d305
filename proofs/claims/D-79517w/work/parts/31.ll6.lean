/-! ===== ListItr.remove ===== -/
section LL6
variable {Γ : yG}
set_option maxHeartbeats 4000000
theorem c_J35_remove {G : yH} {it a nd : Nat} {k : Nat} {mc : Int32} {τ t' : Nat × Nat} {x : Option Nat} {xs : List (Option Nat)} {ns : List Nat} (h1 : G it = some (some τ, litE a (some nd) ns[k + 1]? ((k + 1 : Nat) : Int) mc)) (h : isLLn G t' a mc xs ns) (hk : ns[k]? = some nd) (hx : xs[k]? = some x) (ht : τ ≠ t') : Ct_J35_remove Γ 2 0 0 [.ref it] G (fun r G' => r = none ∧ isLLn G' t' a (mc + iI 1) (xs.eraseIdx k) (ns.eraseIdx k) ∧ G' it = some (some τ, litE a none ns[k + 1]? (k : Int) (mc + iI 1)) ∧ gK (fun t => t = t' ∨ t = τ) G G') noX := by
  have hg := h.2.2.2 k nd x hk hx
  have hne : some nd ≠ ns[k + 1]? := by
    intro e
    have := h.nd_inj hk e.symm (by omega)
    exact this rfl
  refine y_start (lv0 := [some (.ref it), none]) (nm := "remove") (own := RJ35) (by decide +kernel) rfl rfl (by first | exact Nat.le_of_ble_eq_true rfl | (simp only [yArgs, va_cat_rf]; simp [Value.category])) (by first | rfl | (simp only [yArgs, va_cat_rf]; simp [Value.category])) ?_
  intro Z Q E F
  first | refine y_ald_n E dJ35_remove_0 (by rfl) ?_ | refine y_aload_n E dJ35_remove_0 (by rfl) ?_
  refine y_callV E dJ35_remove_1 lk_J35_36 (c_J35_check h1 h.1) (by rfl) h1 rfl (by decide) (by omega) (by omega) rfl (Nat.le_of_ble_eq_true rfl) ?_ (fun _ _ _ h => h.elim)
  rintro v G1 ⟨rfl, rfl⟩
  have h1' := h1
  unfold litE at h1
  unfold ndE at hg
  first | refine y_ald_n E dJ35_remove_4 (by rfl) ?_ | refine y_aload_n E dJ35_remove_4 (by rfl) ?_
  refine y_get E dJ35_remove_5 fl_J35_46_J35 h1 (v := .ref nd) rfl ?_
  refine y_ifnonnull_r (tgt := 19) E dJ35_remove_8 (by decide) ?_
  first | refine y_ald_n E dJ35_remove_19 (by rfl) ?_ | refine y_aload_n E dJ35_remove_19 (by rfl) ?_
  refine y_get E dJ35_remove_20 fl_J35_46_J35 h1 (v := .ref nd) rfl ?_
  refine y_get E dJ35_remove_23 fl_J35_49_J36 (hg) (by rfl) ?_
  first | refine y_ast_n (j := 1) E dJ35_remove_26 rfl (Nat.le_of_ble_eq_true rfl) ?_ | refine y_astore_n (j := 1) E dJ35_remove_26 rfl (Nat.le_of_ble_eq_true rfl) ?_ | refine y_astore_n (j := 1) (r := none) E dJ35_remove_26 rfl (Nat.le_of_ble_eq_true rfl) ?_
  simp only [lst1, lkill_rf, lkill_ref, lkill_int, lkill_no, lkill_null]
  first | refine y_ald_n E dJ35_remove_27 (by rfl) ?_ | refine y_aload_n E dJ35_remove_27 (by rfl) ?_
  refine y_get E dJ35_remove_28 fl_J35_1_J35 (h1) (by rfl) ?_
  first | refine y_ald_n E dJ35_remove_31 (by rfl) ?_ | refine y_aload_n E dJ35_remove_31 (by rfl) ?_
  refine y_get E dJ35_remove_32 fl_J35_46_J35 h1 (v := .ref nd) rfl ?_
  refine y_callV E dJ35_remove_35 lk_J35_68 (c_J4_unlink h hk hx) (by rfl) h.1 rfl (by decide) (by omega) (by omega) rfl (Nat.le_of_ble_eq_true rfl) ?_ (fun _ _ _ h => h.elim)
  rintro v G2 ⟨rfl, g1, g2⟩
  have g3 := g2.at h1 ht
  refine y_pop E dJ35_remove_38 (va_cat_rf _) ?_
  first | refine y_ald_n E dJ35_remove_39 (by rfl) ?_ | refine y_aload_n E dJ35_remove_39 (by rfl) ?_
  refine y_get E dJ35_remove_40 fl_J35_29_J35 (g3) (by rfl) ?_
  first | refine y_ald_n E dJ35_remove_43 (by rfl) ?_ | refine y_aload_n E dJ35_remove_43 (by rfl) ?_
  refine y_get E dJ35_remove_44 fl_J35_46_J35 g3 (v := .ref nd) rfl ?_
  refine y_acmp_ne (x := ns[k + 1]?) (y := some nd) (tgt := 58) E dJ35_remove_47 (by decide) (fun _ => ?_) (fun hb => absurd hb.symm hne)
  first | refine y_ald_n E dJ35_remove_58 (by rfl) ?_ | refine y_aload_n E dJ35_remove_58 (by rfl) ?_
  refine y_dup E dJ35_remove_59 rfl ?_
  refine y_get E dJ35_remove_60 fl_J35_33_J35 (g3) (by rfl) ?_
  refine y_iconst E dJ35_remove_63 ?_
  refine y_isub E dJ35_remove_64 ?_
  refine y_put E dJ35_remove_65 fl_J35_33_J35 fw_J35_2 rfl (by rfl) (g3) (Nat.le_of_ble_eq_true rfl) ?_
  first | refine y_ald_n E dJ35_remove_68 (by rfl) ?_ | refine y_aload_n E dJ35_remove_68 (by rfl) ?_
  refine y_null E dJ35_remove_69 ?_
  refine y_put E dJ35_remove_70 fl_J35_46_J35 fw_J35_0 (by first | rfl | exact nar_r _ _) (by first | rfl | exact fit_r _ _) (gset_s _ _ _) (Nat.le_of_ble_eq_true rfl) ?_
  first | refine y_ald_n E dJ35_remove_73 (by rfl) ?_ | refine y_aload_n E dJ35_remove_73 (by rfl) ?_
  refine y_dup E dJ35_remove_74 rfl ?_
  refine y_get E dJ35_remove_75 fl_J35_19_J35 (gset_s _ _ _) (by rfl) ?_
  refine y_iconst E dJ35_remove_78 ?_
  refine y_iaddG E dJ35_remove_79 ?_
  refine y_put E dJ35_remove_80 fl_J35_19_J35 fw_J35_3 rfl (by rfl) (gset_s _ _ _) (Nat.le_of_ble_eq_true rfl) ?_
  refine y_heap (by rw [gset_gset, gset_gset]) ?_
  have k3 : gK (fun t => t = t' ∨ t = τ) G1 G2 := gK_m g2 (fun t ht => Or.inl ht)
  have ka : ∀ v, gK (· = τ) G2 (gset G2 it v) := fun v => gK_w _ g3 rfl
  refine y_return E F rfl dJ35_remove_83 (by omega) (by omega) ⟨rfl, g1.kk (ka _) (fun e => ht e.symm), ?_, gK_t k3 (gK_m (ka _) (fun t ht => Or.inr ht))⟩
  rw [gset_s, show ((k + 1 : Nat) : Int) - 1 = (k : Int) by omega]
  rfl
end LL6
