/-! ===== toString, String.length, charAt, indexOf ===== -/
section STR2
variable {Γ : yG}
set_option maxHeartbeats 4000000
theorem c_J7_init {G : yH} {τ τ2 : Nat × Nat} {a b : Nat} {cs : List Int} {m : Nat} (h : G a = some (some τ, .inr (16, [.null, .int (iI 0), .int (iI 0), .int (iI 0)]))) (H : isSB G τ2 b cs m) (ht : τ ≠ τ2) : Ct_J7_init Γ 5 1 cs.length [.ref a, .ref b] G (fun r G' => r = none ∧ isStr G' (some τ) a cs ∧ gK (· = τ) G G') noX := by
  refine y_start (lv0 := [some (.ref a), some (.ref b)]) (nm := "<init>") (own := RJ7) (by decide +kernel) rfl rfl (by first | exact Nat.le_of_ble_eq_true rfl | (simp only [yArgs, va_cat_rf]; simp [Value.category])) (by first | rfl | (simp only [yArgs, va_cat_rf]; simp [Value.category])) ?_
  intro Z Q E F
  first | refine y_ald_n E dJ7_init_0 (by rfl) ?_ | refine y_aload_n E dJ7_init_0 (by rfl) ?_
  first | refine y_ald_n E dJ7_init_1 (by rfl) ?_ | refine y_aload_n E dJ7_init_1 (by rfl) ?_
  refine y_null E dJ7_init_2 ?_
  refine y_callI E dJ7_init_3 lk_J7_489 (c_J7_init_2 h H ht) (by rfl) (by decide) (by omega) (by omega) rfl (Nat.le_of_ble_eq_true rfl) ?_ (fun _ _ _ h => h.elim)
  rintro v G1 ⟨rfl, a1, a2⟩
  refine y_return E F rfl dJ7_init_6 (by omega) (by omega) ⟨rfl, a1, a2⟩
theorem c_J6_toString {G : yH} (τ : Nat × Nat) {τ2 : Nat × Nat} {b : Nat} {cs : List Int} {m : Nat} (H : isSB G τ2 b cs m) (ht : τ ≠ τ2) : Ct_J6_toString Γ 6 2 (cs.length + 4) [.ref b] G (fun r G' => (∃ a, r = some (.ref a) ∧ isStr G' (some τ) a cs) ∧ gK (· = τ) G G') noX := by
  refine y_start (lv0 := [some (.ref b)]) (nm := "toString") (own := RJ6) (by decide +kernel) rfl rfl (by first | exact Nat.le_of_ble_eq_true rfl | (simp only [yArgs, va_cat_rf]; simp [Value.category])) (by first | rfl | (simp only [yArgs, va_cat_rf]; simp [Value.category])) ?_
  intro Z Q E F
  refine y_new E τ dJ6_toString_0 nw_J6_18 (by omega) (by omega) (fun a ha => ?_)
  have h := gset_s G a (some τ, (.inr (16, [.null, .int (iI 0), .int (iI 0), .int (iI 0)]) : yE))
  have k1 := gK_n (P := (· = τ)) (some τ, (.inr (16, [.null, .int (iI 0), .int (iI 0), .int (iI 0)]) : yE)) ha
  refine y_dup E dJ6_toString_3 rfl ?_
  first | refine y_ald_n E dJ6_toString_4 (by rfl) ?_ | refine y_aload_n E dJ6_toString_4 (by rfl) ?_
  refine y_callI E dJ6_toString_5 lk_J6_137 (c_J7_init (a := a) (b := b) (cs := cs) (m := m) h (H.kk k1 (fun e => ht e.symm)) ht) (by rfl) (by decide) (by omega) (by omega) rfl (Nat.le_of_ble_eq_true rfl) ?_ (fun _ _ _ h => h.elim)
  rintro v G1 ⟨rfl, a1, a2⟩
  refine y_areturn (r := some a) E F rfl (Or.inl ⟨_, rfl⟩) dJ6_toString_8 (by omega) (by omega) ⟨⟨a, rfl, a1⟩, gK_t k1 a2⟩
theorem c_J7_coder {G : yH} {a q : Nat} {t : yT} {h z : Value} (g : G a = some (t, .inr (16, [.ref q, .int (iI 0), h, z]))) : Ct_J7_coder Γ 1 0 0 [.ref a] G (fun r G' => r = some (.int (iI 0)) ∧ G' = G) noX := by
  refine y_start (lv0 := [some (.ref a)]) (nm := "coder") (own := RJ7) (by decide +kernel) rfl rfl (by first | exact Nat.le_of_ble_eq_true rfl | (simp only [yArgs, va_cat_rf]; simp [Value.category])) (by first | rfl | (simp only [yArgs, va_cat_rf]; simp [Value.category])) ?_
  intro Z Q E F
  refine y_gets E dJ7_coder_0 E.zCS q674 (Or.inl rfl) ?_
  refine y_top (v' := .int (iI (b2i true))) rfl ?_
  refine y_ifb_eq (tgt := 13) E dJ7_coder_3 (by decide) (fun hb => ?_) (fun hb => ?_)
  · cases hb
  · first | refine y_ald_n E dJ7_coder_6 (by rfl) ?_ | refine y_aload_n E dJ7_coder_6 (by rfl) ?_
    refine y_get E dJ7_coder_7 fl_J7_15_J7 (by assumption) (by rfl) ?_
    refine y_goto (tgt := 14) E dJ7_coder_10 (by decide) ?_
    refine y_ireturn E F rfl (by decide) dJ7_coder_14 (by omega) (by omega) ⟨rfl, rfl⟩
theorem c_J7_isLatin1 {G : yH} {a q : Nat} {t : yT} {h z : Value} (g : G a = some (t, .inr (16, [.ref q, .int (iI 0), h, z]))) : Ct_J7_isLatin1 Γ 1 0 0 [.ref a] G (fun r G' => r = some (.int (iI 1)) ∧ G' = G) noX := by
  refine y_start (lv0 := [some (.ref a)]) (nm := "isLatin1") (own := RJ7) (by decide +kernel) rfl rfl (by first | exact Nat.le_of_ble_eq_true rfl | (simp only [yArgs, va_cat_rf]; simp [Value.category])) (by first | rfl | (simp only [yArgs, va_cat_rf]; simp [Value.category])) ?_
  intro Z Q E F
  refine y_gets E dJ7_isLatin1_0 E.zCS q674 (Or.inl rfl) ?_
  refine y_top (v' := .int (iI (b2i true))) rfl ?_
  refine y_ifb_eq (tgt := 17) E dJ7_isLatin1_3 (by decide) (fun hb => ?_) (fun hb => ?_)
  · cases hb
  · first | refine y_ald_n E dJ7_isLatin1_6 (by rfl) ?_ | refine y_aload_n E dJ7_isLatin1_6 (by rfl) ?_
    refine y_get E dJ7_isLatin1_7 fl_J7_15_J7 (by assumption) (by rfl) ?_
    refine y_if_ne (tgt := 17) E dJ7_isLatin1_10 (by decide) (by omega) (fun hc => ?_) (fun hc => ?_)
    · exact absurd rfl hc
    · refine y_iconst E dJ7_isLatin1_13 ?_
      refine y_goto (tgt := 18) E dJ7_isLatin1_14 (by decide) ?_
      refine y_ireturn E F rfl (nar_z (Or.inr rfl)) dJ7_isLatin1_18 (by omega) (by omega) ⟨rfl, rfl⟩
theorem c_J7_length {G : yH} {t : yT} {a : Nat} {cs : List Int} (H : isStr G t a cs) (hn : cs.length ≤ 60000) : Ct_J7_length Γ 2 0 0 [.ref a] G (fun r G' => r = some (.int (iI cs.length)) ∧ G' = G) noX := by
  obtain ⟨q, f, h, z, g, gq, g3, g4⟩ := H
  refine y_start (lv0 := [some (.ref a)]) (nm := "length") (own := RJ7) (by decide +kernel) rfl rfl (by first | exact Nat.le_of_ble_eq_true rfl | (simp only [yArgs, va_cat_rf]; simp [Value.category])) (by first | rfl | (simp only [yArgs, va_cat_rf]; simp [Value.category])) ?_
  intro Z Q E F
  first | refine y_ald_n E dJ7_length_0 (by rfl) ?_ | refine y_aload_n E dJ7_length_0 (by rfl) ?_
  refine y_get E dJ7_length_1 fl_J7_9_J7 (g) (by rfl) ?_
  first | refine y_alenI E dJ7_length_4 (gq) (by decide) ?_ | refine y_alenR E dJ7_length_4 (gq) (by decide) ?_ | refine y_alenL E dJ7_length_4 (gq) ?_
  first | refine y_ald_n E dJ7_length_5 (by rfl) ?_ | refine y_aload_n E dJ7_length_5 (by rfl) ?_
  refine y_callV E dJ7_length_6 lk_J7_335 (c_J7_coder g) (by rfl) (g) rfl (by decide) (by omega) (by omega) rfl (Nat.le_of_ble_eq_true rfl) ?_ (fun _ _ _ h => h.elim)
  rintro v G1 ⟨rfl, rfl⟩
  refine y_eq (st' := [.int (iI 0), .int (iI (cs.length : Int))]) rfl ?_
  refine y_ishr E dJ7_length_9 (i_shr0 _) ?_
  refine y_ireturn E F rfl rfl dJ7_length_10 (by omega) (by omega) ⟨rfl, rfl⟩
theorem c_J29_charAt {G : yH} {q n i : Nat} {t : yT} {f : Int → Int} (gq : G q = some (t, aI 2 n f)) (hi : i < n) (hn : n ≤ 60000) (hr : 0 ≤ f i ∧ f i ≤ 127) : Ct_J29_charAt Γ 3 0 0 [.ref q, .int (iI i)] G (fun r G' => r = some (.int (iI (f i))) ∧ G' = G) noX := by
  refine y_start (lv0 := [some (.ref q), some (.int (iI i))]) (nm := "charAt") (own := RJ29) (by decide +kernel) rfl rfl (by first | exact Nat.le_of_ble_eq_true rfl | (simp only [yArgs, va_cat_rf]; simp [Value.category])) (by first | rfl | (simp only [yArgs, va_cat_rf]; simp [Value.category])) ?_
  intro Z Q E F
  refine y_iload_n E dJ29_charAt_0 (by rfl) ?_
  first | refine y_ald_n E dJ29_charAt_1 (by rfl) ?_ | refine y_aload_n E dJ29_charAt_1 (by rfl) ?_
  first | refine y_alenI E dJ29_charAt_2 (by assumption) (by decide) ?_ | refine y_alenR E dJ29_charAt_2 (by assumption) (by decide) ?_ | refine y_alenL E dJ29_charAt_2 (by assumption) ?_
  refine y_callS E dJ29_charAt_3 lk_J29_9 (c_J7_checkIndex (i := i) (n := n) (by omega)) (by rfl) (by decide) (by omega) (by omega) rfl (Nat.le_of_ble_eq_true rfl) ?_ (fun _ _ _ h => h.elim)
  rintro v G1 ⟨rfl, rfl⟩
  first | refine y_ald_n E dJ29_charAt_6 (by rfl) ?_ | refine y_aload_n E dJ29_charAt_6 (by rfl) ?_
  refine y_iload_n E dJ29_charAt_7 (by rfl) ?_
  refine y_bald E dJ29_charAt_8 (gq) (by omega) ?_
  refine y_sipush E dJ29_charAt_9 (by decide) ?_
  refine y_iand E dJ29_charAt_12 (byteI hr).2.2.2.1 ?_
  refine y_i2c E dJ29_charAt_13 (byteI hr).2.2.2.2.1 ?_
  refine y_ireturn E F rfl (byteI hr).2.2.2.2.2 dJ29_charAt_14 (by omega) (by omega) ⟨rfl, rfl⟩
theorem c_J7_charAt {G : yH} {t : yT} {a i : Nat} {cs : List Int} {x : Int} (H : isStr G t a cs) (hx : cs[i]? = some x) (hn : cs.length ≤ 60000) : Ct_J7_charAt Γ 4 0 0 [.ref a, .int (iI i)] G (fun r G' => r = some (.int (iI x)) ∧ G' = G) noX := by
  obtain ⟨q, f, h, z, g, gq, g3, g4⟩ := H
  have hi : i < cs.length := (List.getElem?_eq_some_iff.mp hx).1
  have hfx : f (i : Int) = x := Option.some.inj ((g4 i hi).symm.trans hx)
  have hr := g3 (i : Int) (by omega) (by omega)
  have hr' := hr
  rw [hfx] at hr'
  refine y_start (lv0 := [some (.ref a), some (.int (iI i))]) (nm := "charAt") (own := RJ7) (by decide +kernel) rfl rfl (by first | exact Nat.le_of_ble_eq_true rfl | (simp only [yArgs, va_cat_rf]; simp [Value.category])) (by first | rfl | (simp only [yArgs, va_cat_rf]; simp [Value.category])) ?_
  intro Z Q E F
  first | refine y_ald_n E dJ7_charAt_0 (by rfl) ?_ | refine y_aload_n E dJ7_charAt_0 (by rfl) ?_
  refine y_callV E dJ7_charAt_1 lk_J7_492 (c_J7_isLatin1 g) (by rfl) (g) rfl (by decide) (by omega) (by omega) rfl (Nat.le_of_ble_eq_true rfl) ?_ (fun _ _ _ h => h.elim)
  rintro v G1 ⟨rfl, rfl⟩
  refine y_eq (st' := [.int (iI (b2i true))]) rfl ?_
  refine y_ifb_eq (tgt := 16) E dJ7_charAt_4 (by decide) (fun hb => ?_) (fun hb => ?_)
  · cases hb
  · first | refine y_ald_n E dJ7_charAt_7 (by rfl) ?_ | refine y_aload_n E dJ7_charAt_7 (by rfl) ?_
    refine y_get E dJ7_charAt_8 fl_J7_9_J7 (g) (by rfl) ?_
    refine y_iload_n E dJ7_charAt_11 (by rfl) ?_
    refine y_callS E dJ7_charAt_12 lk_J7_495 (c_J29_charAt (i := i) gq hi hn hr) (by rfl) (by decide) (by omega) (by omega) rfl (Nat.le_of_ble_eq_true rfl) ?_ (fun _ _ _ h => h.elim)
    rintro v G1 ⟨rfl, rfl⟩
    refine y_eq (st' := [.int (iI x)]) (by rw [← hfx]; rfl) ?_
    refine y_ireturn E F rfl (byteI hr').2.2.2.2.2 dJ7_charAt_15 (by omega) (by omega) ⟨rfl, rfl⟩
end STR2
