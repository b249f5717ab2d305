/-! ===== java.util.BitSet: the walks ===== -/
/-- a set of places below 61, in one word -/
def isBS (G : yH) (τ : Nat × Nat) (b : Nat) (P : Nat → Bool) : Prop := ∃ (q : Nat) (f : Nat → Int64) (u y : Int), G b = some (some τ, .inr (13, [.ref q, .int (iI u), .int (iI y)])) ∧ G q = some (some τ, aL 1 f) ∧ f 0 = lN (bW P 61) ∧ ((u = 0 ∧ bW P 61 = 0) ∨ (u = 1 ∧ bW P 61 ≠ 0))
theorem isBS.kk {P : Nat × Nat → Prop} {G G' : yH} {τ : Nat × Nat} {b : Nat} {S : Nat → Bool} (H : isBS G τ b S) (hk : gK P G G') (hP : ¬ P τ) : isBS G' τ b S := by
  obtain ⟨q, f, u, y, h1, h2, h3⟩ := H
  exact ⟨q, f, u, y, hk.at h1 hP, hk.at h2 hP, h3⟩
theorem bW61 (P : Nat → Bool) : bW P 61 < 2305843009213693952 := bW_lt P 61
section BSM
variable {Γ : yG}
set_option maxHeartbeats 4000000
theorem c_J37_wordIndex {G : yH} {i : Nat} (hi : i < 64) : Ct_J37_wordIndex Γ 1 0 0 [.int (iI i)] G (fun r G' => r = some (.int (iI 0)) ∧ G' = G) noX := by
  refine y_start (lv0 := [some (.int (iI i))]) (nm := "wordIndex") (own := RJ37) (by decide +kernel) rfl rfl (by first | exact Nat.le_of_ble_eq_true rfl | (simp only [yArgs, va_cat_rf]; simp [Value.category])) (by first | rfl | (simp only [yArgs, va_cat_rf]; simp [Value.category])) ?_
  intro Z Q E F
  refine y_iload_n E dJ37_wordIndex_0 (by rfl) ?_
  refine y_bipush E dJ37_wordIndex_1 (by decide) ?_
  refine y_ishr E dJ37_wordIndex_3 (iI_shr 6 (by omega) (by omega) (by decide)) ?_
  refine y_top (v' := .int (iI 0)) (by congr 2; omega) ?_
  refine y_ireturn E F rfl rfl dJ37_wordIndex_4 (by omega) (by omega) ⟨rfl, rfl⟩
theorem c_J37_checkInvariants {G : yH} {b : Nat} : Ct_J37_checkInvariants Γ 1 0 0 [.ref b] G (fun r G' => r = none ∧ G' = G) noX := by
  refine y_start (lv0 := [some (.ref b)]) (nm := "checkInvariants") (own := RJ37) (by decide +kernel) rfl rfl (by first | exact Nat.le_of_ble_eq_true rfl | (simp only [yArgs, va_cat_rf]; simp [Value.category])) (by first | rfl | (simp only [yArgs, va_cat_rf]; simp [Value.category])) ?_
  intro Z Q E F
  refine y_gets E dJ37_checkInvariants_0 E.zBA q1316 (Or.inl rfl) ?_
  refine y_top (v' := .int (iI (b2i true))) rfl ?_
  refine y_ifb_ne (tgt := 37) E dJ37_checkInvariants_3 (by decide) (fun h => ?_) (fun h => ?_)
  · refine y_gets E dJ37_checkInvariants_37 E.zBA q1316 (Or.inl rfl) ?_
    refine y_top (v' := .int (iI (b2i true))) rfl ?_
    refine y_ifb_ne (tgt := 70) E dJ37_checkInvariants_40 (by decide) (fun h => ?_) (fun h => ?_)
    · refine y_gets E dJ37_checkInvariants_70 E.zBA q1316 (Or.inl rfl) ?_
      refine y_top (v' := .int (iI (b2i true))) rfl ?_
      refine y_ifb_ne (tgt := 110) E dJ37_checkInvariants_73 (by decide) (fun h => ?_) (fun h => ?_)
      · refine y_return E F rfl dJ37_checkInvariants_110 (by omega) (by omega) ⟨rfl, rfl⟩
      · cases h
    · cases h
  · cases h
theorem c_J37_initWords {G : yH} {b : Nat} {τ : Nat × Nat} {v1 v2 v3 : Value} (h : G b = some (some τ, .inr (13, [v1, v2, v3]))) : Ct_J37_initWords Γ 2 1 1 [.ref b, .int (iI 61)] G (fun r G' => r = none ∧ ∃ q, G q = none ∧ G' = gset (gset G q (some τ, aL 1 (fun _ => 0))) b (some τ, .inr (13, [.ref q, v2, v3]))) noX := by
  refine y_start (lv0 := [some (.ref b), some (.int (iI 61))]) (nm := "initWords") (own := RJ37) (by decide +kernel) rfl rfl (by first | exact Nat.le_of_ble_eq_true rfl | (simp only [yArgs, va_cat_rf]; simp [Value.category])) (by first | rfl | (simp only [yArgs, va_cat_rf]; simp [Value.category])) ?_
  intro Z Q E F
  first | refine y_ald_n E dJ37_initWords_0 (by rfl) ?_ | refine y_aload_n E dJ37_initWords_0 (by rfl) ?_
  refine y_iload_n E dJ37_initWords_1 (by rfl) ?_
  refine y_iconst E dJ37_initWords_2 ?_
  refine y_isub E dJ37_initWords_3 ?_
  refine y_callS E dJ37_initWords_4 lk_J37_52 (c_J37_wordIndex (i := 60) (by omega)) (by rfl) (by decide) (by omega) (by omega) rfl (Nat.le_of_ble_eq_true rfl) ?_ (fun _ _ _ h => h.elim)
  rintro v G' ⟨rfl, rfl⟩
  refine y_eq (st' := [.int (iI 0), .ref b]) rfl ?_
  refine y_iconst E dJ37_initWords_7 ?_
  refine y_iadd E dJ37_initWords_8 ?_
  refine y_newL E τ q1258 dJ37_initWords_9 (by omega) (by omega) (by omega) (fun q hq => ?_)
  have hqb : b ≠ q := g_nn h hq
  refine y_put E dJ37_initWords_11 fl_J37_11_J37 fw_J37_0 (by first | rfl | exact nar_r _ _) (by first | rfl | exact fit_r _ _) (gs_n hqb h) (Nat.le_of_ble_eq_true rfl) ?_
  refine y_return E F rfl dJ37_initWords_14 (by omega) (by omega) ⟨rfl, q, hq, rfl⟩
theorem c_J37_init {G : yH} {b : Nat} {τ : Nat × Nat} (h : G b = some (some τ, .inr (13, [.null, .int (iI 0), .int (iI 0)]))) : Ct_J37_init Γ 3 1 1 [.ref b, .int (iI 61)] G (fun r G' => r = none ∧ isBS G' τ b (fun _ => false) ∧ gK (· = τ) G G') noX := by
  refine y_start (lv0 := [some (.ref b), some (.int (iI 61))]) (nm := "<init>") (own := RJ37) (by decide +kernel) rfl rfl (by first | exact Nat.le_of_ble_eq_true rfl | (simp only [yArgs, va_cat_rf]; simp [Value.category])) (by first | rfl | (simp only [yArgs, va_cat_rf]; simp [Value.category])) ?_
  intro Z Q E F
  first | refine y_ald_n E dJ37_init_0 (by rfl) ?_ | refine y_aload_n E dJ37_init_0 (by rfl) ?_
  refine y_objInit E dJ37_init_1 q1240 q167 q168 (by decide) (Nat.le_of_ble_eq_true rfl) ?_
  first | refine y_ald_n E dJ37_init_4 (by rfl) ?_ | refine y_aload_n E dJ37_init_4 (by rfl) ?_
  refine y_iconst E dJ37_init_5 ?_
  refine y_put E dJ37_init_6 fl_J37_7_J37 fw_J37_1 rfl (by rfl) (h) (Nat.le_of_ble_eq_true rfl) ?_
  first | refine y_ald_n E dJ37_init_9 (by rfl) ?_ | refine y_aload_n E dJ37_init_9 (by rfl) ?_
  refine y_iconst E dJ37_init_10 ?_
  have h1 : gset G b (some τ, (.inr (13, [.null, .int (iI 0), .int (iI 0)]) : yE)) b = some (some τ, .inr (13, [.null, .int (iI 0), .int (iI 0)])) := gset_s _ _ _
  refine y_put E dJ37_init_11 fl_J37_24_J37 fw_J37_2 (nar_z (Or.inl rfl)) (fit_z (Or.inl rfl)) (h1) (Nat.le_of_ble_eq_true rfl) ?_
  refine y_heap (gset_gset _ _ _ _) ?_
  refine y_iload_n E dJ37_init_14 (by rfl) ?_
  refine y_if_ge (tgt := 45) E dJ37_init_15 (by decide) (by omega) (fun h15 => ?_) (fun h15 => ?_)
  · first | refine y_ald_n E dJ37_init_45 (by rfl) ?_ | refine y_aload_n E dJ37_init_45 (by rfl) ?_
    refine y_iload_n E dJ37_init_46 (by rfl) ?_
    refine y_callV E dJ37_init_47 lk_J37_27 (c_J37_initWords (v1 := .null) (v2 := .int (iI 0)) (v3 := .int (iI 0)) h1) (by rfl) (h1) rfl (by decide) (by omega) (by omega) rfl (Nat.le_of_ble_eq_true rfl) ?_ (fun _ _ _ h => h.elim)
    rintro v G' ⟨rfl, q, hq, rfl⟩
    have hqb : b ≠ q := g_nn h1 hq
    first | refine y_ald_n E dJ37_init_50 (by rfl) ?_ | refine y_aload_n E dJ37_init_50 (by rfl) ?_
    refine y_iconst E dJ37_init_51 ?_
    refine y_put E dJ37_init_52 fl_J37_24_J37 fw_J37_2 (nar_z (Or.inr rfl)) (fit_z (Or.inr rfl)) (gset_s _ _ _) (Nat.le_of_ble_eq_true rfl) ?_
    refine y_heap (gset_gset _ _ _ _) ?_
    refine y_return E F rfl dJ37_init_55 (by omega) (by omega) ⟨rfl, ⟨q, _, 0, 1, gset_s _ _ _, gs_n hqb.symm (gset_s _ _ _), (by rw [bW_z.mpr (fun _ _ => rfl)]; decide), Or.inl ⟨rfl, bW_z.mpr (fun _ _ => rfl)⟩⟩, ?_⟩
    refine gK_t (gK_w _ h rfl) (gK_t (gK_n _ hq) (gK_w _ (gs_n hqb h1) rfl))
  · exfalso
    omega
theorem c_J37_ensureCapacity {G : yH} {b q : Nat} {τ : Nat × Nat} {f : Nat → Int64} {u y : Int} (h : G b = some (some τ, .inr (13, [.ref q, .int (iI u), .int (iI y)]))) (hq : G q = some (some τ, aL 1 f)) : Ct_J37_ensureCapacity Γ 1 0 0 [.ref b, .int (iI 1)] G (fun r G' => r = none ∧ G' = G) noX := by
  refine y_start (lv0 := [some (.ref b), some (.int (iI 1)), none]) (nm := "ensureCapacity") (own := RJ37) (by decide +kernel) rfl rfl (by first | exact Nat.le_of_ble_eq_true rfl | (simp only [yArgs, va_cat_rf]; simp [Value.category])) (by first | rfl | (simp only [yArgs, va_cat_rf]; simp [Value.category])) ?_
  intro Z Q E F
  first | refine y_ald_n E dJ37_ensureCapacity_0 (by rfl) ?_ | refine y_aload_n E dJ37_ensureCapacity_0 (by rfl) ?_
  refine y_get E dJ37_ensureCapacity_1 fl_J37_11_J37 (by assumption) (by rfl) ?_
  first | refine y_alenI E dJ37_ensureCapacity_4 (by assumption) (by decide) ?_ | refine y_alenR E dJ37_ensureCapacity_4 (by assumption) (by decide) ?_ | refine y_alenL E dJ37_ensureCapacity_4 (by assumption) ?_
  refine y_iload_n E dJ37_ensureCapacity_5 (by rfl) ?_
  refine y_icmp_ge (tgt := 38) E dJ37_ensureCapacity_6 (by decide) (by omega) (by omega) (fun h6 => ?_) (fun h6 => ?_)
  · refine y_return E F rfl dJ37_ensureCapacity_38 (by omega) (by omega) ⟨rfl, rfl⟩
  · exfalso
    omega
theorem c_J37_expandTo {G : yH} {b q : Nat} {τ : Nat × Nat} {f : Nat → Int64} {u y : Int} (h : G b = some (some τ, .inr (13, [.ref q, .int (iI u), .int (iI y)]))) (hq : G q = some (some τ, aL 1 f)) (hu : u = 0 ∨ u = 1) : Ct_J37_expandTo Γ 2 0 0 [.ref b, .int (iI 0)] G (fun r G' => r = none ∧ G' b = some (some τ, .inr (13, [.ref q, .int (iI 1), .int (iI y)])) ∧ G' q = some (some τ, aL 1 f) ∧ gK (· = τ) G G') noX := by
  have hbq : b ≠ q := g_ne h hq (by simp [aL])
  refine y_start (lv0 := [some (.ref b), some (.int (iI 0)), none]) (nm := "expandTo") (own := RJ37) (by decide +kernel) rfl rfl (by first | exact Nat.le_of_ble_eq_true rfl | (simp only [yArgs, va_cat_rf]; simp [Value.category])) (by first | rfl | (simp only [yArgs, va_cat_rf]; simp [Value.category])) ?_
  intro Z Q E F
  refine y_iload_n E dJ37_expandTo_0 (by rfl) ?_
  refine y_iconst E dJ37_expandTo_1 ?_
  refine y_iadd E dJ37_expandTo_2 ?_
  refine y_istore_n (j := 2) E dJ37_expandTo_3 rfl (Nat.le_of_ble_eq_true rfl) ?_
  first | refine y_ald_n E dJ37_expandTo_4 (by rfl) ?_ | refine y_aload_n E dJ37_expandTo_4 (by rfl) ?_
  refine y_get E dJ37_expandTo_5 fl_J37_7_J37 (by assumption) (by rfl) ?_
  refine y_iload_n E dJ37_expandTo_8 (by rfl) ?_
  refine y_icmp_ge (tgt := 22) E dJ37_expandTo_9 (by decide) (by omega) (by omega) (fun h9 => ?_) (fun h9 => ?_)
  · have hu1 : u = 1 := by omega
    subst hu1
    refine y_return E F rfl dJ37_expandTo_22 (by omega) (by omega) ⟨rfl, h, hq, gK_r _ _⟩
  · first | refine y_ald_n E dJ37_expandTo_12 (by rfl) ?_ | refine y_aload_n E dJ37_expandTo_12 (by rfl) ?_
    refine y_iload_n E dJ37_expandTo_13 (by rfl) ?_
    refine y_top (v' := .int (iI 1)) rfl ?_
    refine y_callV E dJ37_expandTo_14 lk_J37_139 (c_J37_ensureCapacity h hq) (by rfl) (h) rfl (by decide) (by omega) (by omega) rfl (Nat.le_of_ble_eq_true rfl) ?_ (fun _ _ _ h => h.elim)
    rintro v G' ⟨rfl, rfl⟩
    first | refine y_ald_n E dJ37_expandTo_17 (by rfl) ?_ | refine y_aload_n E dJ37_expandTo_17 (by rfl) ?_
    refine y_iload_n E dJ37_expandTo_18 (by rfl) ?_
    refine y_put E dJ37_expandTo_19 fl_J37_7_J37 fw_J37_1 rfl (by rfl) (h) (Nat.le_of_ble_eq_true rfl) ?_
    refine y_return E F rfl dJ37_expandTo_22 (by omega) (by omega) ⟨rfl, gset_s _ _ _, gs_n hbq.symm hq, gK_w _ h rfl⟩
theorem bs_shl {p : Nat} (h : p < 64) : lN 1 <<< ((iI (p : Int)).toInt64 &&& 63) = lN (2 ^ p) := by
  rw [← iI_nI, wb_shl 1 h, Nat.one_mul]
theorem isBS_wr {G G1 : yH} {τ : Nat × Nat} {b q : Nat} {f : Nat → Int64} {y : Int} {P : Nat → Bool} (h1 : G1 b = some (some τ, .inr (13, [.ref q, .int (iI 1), .int (iI y)]))) (h2 : G1 q = some (some τ, aL 1 f)) (hk : gK (· = τ) G G1) (hnz : bW P 61 ≠ 0) : isBS (gset G1 q (some τ, aL 1 (upN f (Int.toNat 0) (lN (bW P 61))))) τ b P ∧ gK (· = τ) G (gset G1 q (some τ, aL 1 (upN f (Int.toNat 0) (lN (bW P 61))))) := by
  have hbq : b ≠ q := g_ne h1 h2 (by simp [aL])
  exact ⟨⟨q, _, 1, y, gs_n hbq h1, gset_s _ _ _, by simp [upN], Or.inr ⟨rfl, hnz⟩⟩, gK_t hk (gK_w _ h2 rfl)⟩
theorem c_J37_set {G : yH} {b p : Nat} {τ : Nat × Nat} {P : Nat → Bool} (H : isBS G τ b P) (hp : p < 61) : Ct_J37_set Γ 3 0 0 [.ref b, .int (iI p)] G (fun r G' => r = none ∧ isBS G' τ b (fun j => P j || decide (j = p)) ∧ gK (· = τ) G G') noX := by
  obtain ⟨q, f, u, y, h, hq, hf, hu⟩ := H
  refine y_start (lv0 := [some (.ref b), some (.int (iI p)), none]) (nm := "set") (own := RJ37) (by decide +kernel) rfl rfl (by first | exact Nat.le_of_ble_eq_true rfl | (simp only [yArgs, va_cat_rf]; simp [Value.category])) (by first | rfl | (simp only [yArgs, va_cat_rf]; simp [Value.category])) ?_
  intro Z Q E F
  refine y_iload_n E dJ37_set_0 (by rfl) ?_
  refine y_if_ge (tgt := 31) E dJ37_set_1 (by decide) (by omega) (fun h1 => ?_) (fun h1 => ?_)
  · refine y_iload_n E dJ37_set_31 (by rfl) ?_
    refine y_callS E dJ37_set_32 lk_J37_52 (c_J37_wordIndex (i := p) (by omega)) (by rfl) (by decide) (by omega) (by omega) rfl (Nat.le_of_ble_eq_true rfl) ?_ (fun _ _ _ h => h.elim)
    rintro v G' ⟨rfl, rfl⟩
    refine y_eq (st' := [.int (iI 0)]) rfl ?_
    refine y_istore_n (j := 2) E dJ37_set_35 rfl (Nat.le_of_ble_eq_true rfl) ?_
    first | refine y_ald_n E dJ37_set_36 (by rfl) ?_ | refine y_aload_n E dJ37_set_36 (by rfl) ?_
    refine y_iload_n E dJ37_set_37 (by rfl) ?_
    refine y_callV E dJ37_set_38 lk_J37_155 (c_J37_expandTo h hq (by omega)) (by rfl) (h) rfl (by decide) (by omega) (by omega) rfl (Nat.le_of_ble_eq_true rfl) ?_ (fun _ _ _ h => h.elim)
    rintro v G1 ⟨rfl, a1, a2, a3⟩
    first | refine y_ald_n E dJ37_set_41 (by rfl) ?_ | refine y_aload_n E dJ37_set_41 (by rfl) ?_
    refine y_get E dJ37_set_42 fl_J37_11_J37 (by assumption) (by rfl) ?_
    refine y_iload_n E dJ37_set_45 (by rfl) ?_
    refine y_dup2 E dJ37_set_46 rfl rfl ?_
    refine y_lald E dJ37_set_47 (by assumption) (by omega) ?_
    refine y_top (v' := .long (lN (bW P 61))) (by rw [← hf]; rfl) ?_
    refine y_lconst E dJ37_set_48 ?_
    refine y_iload_n E dJ37_set_49 (by rfl) ?_
    refine y_lshl E dJ37_set_50 (bs_shl (by omega)) ?_
    refine y_lor E dJ37_set_51 (wb_or (Nat.lt_trans (bW61 P) (by decide)) (Nat.pow_lt_pow_right (by decide) (by omega))) ?_
    refine y_top (v' := .long (lN (bW (fun j => P j || decide (j = p)) 61))) (by rw [bW_one hp, bW_or]) ?_
    refine y_last E dJ37_set_52 (by assumption) (by omega) ?_
    have hnz : bW (fun j => P j || decide (j = p)) 61 ≠ 0 := fun e => by have := bW_z.mp e p hp; simp at this
    obtain ⟨b1, b2⟩ := isBS_wr a1 a2 a3 hnz
    first | refine y_ald_n E dJ37_set_53 (by rfl) ?_ | refine y_aload_n E dJ37_set_53 (by rfl) ?_
    refine y_callV E dJ37_set_54 lk_J37_56 (c_J37_checkInvariants (b := b)) (by rfl) (gs_n (g_ne a1 a2 (by simp [aL])) a1) rfl (by decide) (by omega) (by omega) rfl (Nat.le_of_ble_eq_true rfl) ?_ (fun _ _ _ h => h.elim)
    rintro v G2 ⟨rfl, rfl⟩
    refine y_return E F rfl dJ37_set_57 (by omega) (by omega) ⟨rfl, b1, b2⟩
  · exfalso
    omega
theorem c_J37_checkRange {G : yH} {a b : Nat} (h : a < b) (hb : b ≤ 61) : Ct_J37_checkRange Γ 1 0 0 [.int (iI a), .int (iI b)] G (fun r G' => r = none ∧ G' = G) noX := by
  refine y_start (lv0 := [some (.int (iI a)), some (.int (iI b))]) (nm := "checkRange") (own := RJ37) (by decide +kernel) rfl rfl (by first | exact Nat.le_of_ble_eq_true rfl | (simp only [yArgs, va_cat_rf]; simp [Value.category])) (by first | rfl | (simp only [yArgs, va_cat_rf]; simp [Value.category])) ?_
  intro Z Q E F
  refine y_iload_n E dJ37_checkRange_0 (by rfl) ?_
  refine y_if_ge (tgt := 31) E dJ37_checkRange_1 (by decide) (by omega) (fun h1 => ?_) (fun h1 => ?_)
  · refine y_iload_n E dJ37_checkRange_31 (by rfl) ?_
    refine y_if_ge (tgt := 62) E dJ37_checkRange_32 (by decide) (by omega) (fun h32 => ?_) (fun h32 => ?_)
    · refine y_iload_n E dJ37_checkRange_62 (by rfl) ?_
      refine y_iload_n E dJ37_checkRange_63 (by rfl) ?_
      refine y_icmp_le (tgt := 103) E dJ37_checkRange_64 (by decide) (by omega) (by omega) (fun h64 => ?_) (fun h64 => ?_)
      · refine y_return E F rfl dJ37_checkRange_103 (by omega) (by omega) ⟨rfl, rfl⟩
      · exfalso
        omega
    · exfalso
      omega
  · exfalso
    omega
theorem c_J37_set_2 {G : yH} {b x z : Nat} {τ : Nat × Nat} {P : Nat → Bool} (H : isBS G τ b P) (hx : x < z) (hz : z ≤ 61) : Ct_J37_set_2 Γ 3 0 0 [.ref b, .int (iI x), .int (iI z)] G (fun r G' => r = none ∧ isBS G' τ b (fun j => P j || (decide (x ≤ j) && decide (j < z))) ∧ gK (· = τ) G G') noX := by
  obtain ⟨q, f, u, y, h, hq, hf, hu⟩ := H
  refine y_start (lv0 := [some (.ref b), some (.int (iI x)), some (.int (iI z)), none, none, none, none, none, none, none]) (nm := "set") (own := RJ37) (by decide +kernel) rfl rfl (by first | exact Nat.le_of_ble_eq_true rfl | (simp only [yArgs, va_cat_rf]; simp [Value.category])) (by first | rfl | (simp only [yArgs, va_cat_rf]; simp [Value.category])) ?_
  intro Z Q E F
  refine y_iload_n E dJ37_set_2_0 (by rfl) ?_
  refine y_iload_n E dJ37_set_2_1 (by rfl) ?_
  refine y_callS E dJ37_set_2_2 lk_J37_161 (c_J37_checkRange (a := x) (b := z) hx hz) (by rfl) (by decide) (by omega) (by omega) rfl (Nat.le_of_ble_eq_true rfl) ?_ (fun _ _ _ h => h.elim)
  rintro v G' ⟨rfl, rfl⟩
  refine y_iload_n E dJ37_set_2_5 (by rfl) ?_
  refine y_iload_n E dJ37_set_2_6 (by rfl) ?_
  refine y_icmp_ne (tgt := 11) E dJ37_set_2_7 (by decide) (by omega) (by omega) (fun h7 => ?_) (fun h7 => ?_)
  · refine y_iload_n E dJ37_set_2_11 (by rfl) ?_
    refine y_callS E dJ37_set_2_12 lk_J37_52 (c_J37_wordIndex (i := x) (by omega)) (by rfl) (by decide) (by omega) (by omega) rfl (Nat.le_of_ble_eq_true rfl) ?_ (fun _ _ _ h => h.elim)
    rintro v G' ⟨rfl, rfl⟩
    refine y_eq (st' := [.int (iI 0)]) rfl ?_
    refine y_istore_n (j := 3) E dJ37_set_2_15 rfl (Nat.le_of_ble_eq_true rfl) ?_
    refine y_iload_n E dJ37_set_2_16 (by rfl) ?_
    refine y_iconst E dJ37_set_2_17 ?_
    refine y_isub E dJ37_set_2_18 ?_
    refine y_top (v' := .int (iI ((z - 1 : Nat) : Int))) (by congr 2; omega) ?_
    refine y_callS E dJ37_set_2_19 lk_J37_52 (c_J37_wordIndex (i := z - 1) (by omega)) (by rfl) (by decide) (by omega) (by omega) rfl (Nat.le_of_ble_eq_true rfl) ?_ (fun _ _ _ h => h.elim)
    rintro v G' ⟨rfl, rfl⟩
    refine y_eq (st' := [.int (iI 0)]) rfl ?_
    refine y_istore E dJ37_set_2_22 (Nat.le_of_ble_eq_true rfl) ?_
    first | refine y_ald_n E dJ37_set_2_24 (by rfl) ?_ | refine y_aload_n E dJ37_set_2_24 (by rfl) ?_
    refine y_iload E dJ37_set_2_25 (by rfl) ?_
    refine y_callV E dJ37_set_2_27 lk_J37_155 (c_J37_expandTo h hq (by omega)) (by rfl) (h) rfl (by decide) (by omega) (by omega) rfl (Nat.le_of_ble_eq_true rfl) ?_ (fun _ _ _ h => h.elim)
    rintro v G1 ⟨rfl, a1, a2, a3⟩
    refine y_ldc2 E q1448 dJ37_set_2_30 ?_
    refine y_iload_n E dJ37_set_2_33 (by rfl) ?_
    refine y_lshl E dJ37_set_2_34 rfl ?_
    refine y_lstore E dJ37_set_2_35 (Nat.le_of_ble_eq_true rfl) ?_
    refine y_ldc2 E q1448 dJ37_set_2_37 ?_
    refine y_iload_n E dJ37_set_2_40 (by rfl) ?_
    refine y_ineg E dJ37_set_2_41 ?_
    refine y_lushr E dJ37_set_2_42 rfl ?_
    refine y_lstore E dJ37_set_2_43 (Nat.le_of_ble_eq_true rfl) ?_
    refine y_iload_n E dJ37_set_2_45 (by rfl) ?_
    refine y_iload E dJ37_set_2_46 (by rfl) ?_
    refine y_icmp_ne (tgt := 68) E dJ37_set_2_48 (by decide) (by omega) (by omega) (fun h48 => ?_) (fun h48 => ?_)
    · exfalso
      omega
    first | refine y_ald_n E dJ37_set_2_51 (by rfl) ?_ | refine y_aload_n E dJ37_set_2_51 (by rfl) ?_
    refine y_get E dJ37_set_2_52 fl_J37_11_J37 (by assumption) (by rfl) ?_
    refine y_iload_n E dJ37_set_2_55 (by rfl) ?_
    refine y_dup2 E dJ37_set_2_56 rfl rfl ?_
    refine y_lald E dJ37_set_2_57 (by assumption) (by omega) ?_
    refine y_top (v' := .long (lN (bW P 61))) (by rw [← hf]; rfl) ?_
    refine y_lload E dJ37_set_2_58 (by rfl) ?_
    refine y_lload E dJ37_set_2_60 (by rfl) ?_
    refine y_land E dJ37_set_2_62 (bs_mask ⟨x, by omega⟩ ⟨z, by omega⟩ hx) ?_
    refine y_top (v' := .long (lN (bW (fun j => decide (x ≤ j) && decide (j < z)) 61))) (by rw [← bW_iv hx hz]) ?_
    refine y_lor E dJ37_set_2_63 (wb_or (Nat.lt_trans (bW61 _) (by decide)) (Nat.lt_trans (bW61 _) (by decide))) ?_
    refine y_top (v' := .long (lN (bW (fun j => P j || (decide (x ≤ j) && decide (j < z))) 61))) (by rw [bW_or]) ?_
    refine y_last E dJ37_set_2_64 (by assumption) (by omega) ?_
    have hnz : bW (fun j => P j || (decide (x ≤ j) && decide (j < z))) 61 ≠ 0 := fun e => by have := bW_z.mp e x (by omega); simp [hx] at this
    obtain ⟨b1, b2⟩ := isBS_wr a1 a2 a3 hnz
    refine y_goto (tgt := 119) E dJ37_set_2_65 (by decide) ?_
    first | refine y_ald_n E dJ37_set_2_119 (by rfl) ?_ | refine y_aload_n E dJ37_set_2_119 (by rfl) ?_
    refine y_callV E dJ37_set_2_120 lk_J37_56 (c_J37_checkInvariants (b := b)) (by rfl) (gs_n (g_ne a1 a2 (by simp [aL])) a1) rfl (by decide) (by omega) (by omega) rfl (Nat.le_of_ble_eq_true rfl) ?_ (fun _ _ _ h => h.elim)
    rintro v G2 ⟨rfl, rfl⟩
    refine y_return E F rfl dJ37_set_2_123 (by omega) (by omega) ⟨rfl, b1, b2⟩
  · exfalso
    omega
theorem c_J37_cardinality {G : yH} {b : Nat} {τ : Nat × Nat} {P : Nat → Bool} (H : isBS G τ b P) : Ct_J37_cardinality Γ 2 0 0 [.ref b] G (fun r G' => r = some (.int (iI (cnt P 61))) ∧ G' = G) noX := by
  obtain ⟨q, f, u, y, h, hq, hf, hu⟩ := H
  have hc := cnt_le P 61
  refine y_start (lv0 := [some (.ref b), none, none]) (nm := "cardinality") (own := RJ37) (by decide +kernel) rfl rfl (by first | exact Nat.le_of_ble_eq_true rfl | (simp only [yArgs, va_cat_rf]; simp [Value.category])) (by first | rfl | (simp only [yArgs, va_cat_rf]; simp [Value.category])) ?_
  intro Z Q E F
  refine y_iconst E dJ37_cardinality_0 ?_
  refine y_istore_n (j := 1) E dJ37_cardinality_1 rfl (Nat.le_of_ble_eq_true rfl) ?_
  refine y_iconst E dJ37_cardinality_2 ?_
  refine y_istore_n (j := 2) E dJ37_cardinality_3 rfl (Nat.le_of_ble_eq_true rfl) ?_
  refine y_iload_n E dJ37_cardinality_4 (by rfl) ?_
  first | refine y_ald_n E dJ37_cardinality_5 (by rfl) ?_ | refine y_aload_n E dJ37_cardinality_5 (by rfl) ?_
  refine y_get E dJ37_cardinality_6 fl_J37_7_J37 (by assumption) (by rfl) ?_
  refine y_icmp_ge (tgt := 30) E dJ37_cardinality_9 (by decide) (by omega) (by omega) (fun h9 => ?_) (fun h9 => ?_)
  · have : u = 0 ∧ bW P 61 = 0 := by omega
    have e : cnt P 61 = 0 := by rw [← popT_bW P, this.2]; decide +kernel
    refine y_iload_n E dJ37_cardinality_30 (by rfl) ?_
    refine y_top (v' := .int (iI (cnt P 61))) (by rw [e]; rfl) ?_
    refine y_ireturn E F rfl rfl dJ37_cardinality_31 (by omega) (by omega) ⟨rfl, rfl⟩
  · have hu1 : u = 1 := by omega
    subst hu1
    refine y_iload_n E dJ37_cardinality_12 (by rfl) ?_
    first | refine y_ald_n E dJ37_cardinality_13 (by rfl) ?_ | refine y_aload_n E dJ37_cardinality_13 (by rfl) ?_
    refine y_get E dJ37_cardinality_14 fl_J37_11_J37 (by assumption) (by rfl) ?_
    refine y_iload_n E dJ37_cardinality_17 (by rfl) ?_
    refine y_lald E dJ37_cardinality_18 (by assumption) (by omega) ?_
    refine y_top (v' := .long (lN (bW P 61))) (by rw [← hf]; rfl) ?_
    refine y_callS E dJ37_cardinality_19 lk_J37_196 (c_J40_bitCount (x := bW P 61) (Nat.lt_trans (bW61 P) (by decide))) (by rfl) (by decide) (by omega) (by omega) rfl (Nat.le_of_ble_eq_true rfl) ?_ (fun _ _ _ h => h.elim)
    rintro v G' ⟨rfl, rfl⟩
    refine y_eq (st' := [.int (iI (cnt P 61)), .int (iI 0)]) (by rw [← popT_bW P]; rfl) ?_
    refine y_iadd E dJ37_cardinality_22 ?_
    refine y_istore_n (j := 1) E dJ37_cardinality_23 rfl (Nat.le_of_ble_eq_true rfl) ?_
    refine y_iinc E dJ37_cardinality_24 (by rfl) ?_
    refine y_goto (tgt := 4) E dJ37_cardinality_27 (by decide) ?_
    refine y_iload_n E dJ37_cardinality_4 (by rfl) ?_
    first | refine y_ald_n E dJ37_cardinality_5 (by rfl) ?_ | refine y_aload_n E dJ37_cardinality_5 (by rfl) ?_
    refine y_get E dJ37_cardinality_6 fl_J37_7_J37 (by assumption) (by rfl) ?_
    refine y_icmp_ge (tgt := 30) E dJ37_cardinality_9 (by decide) (by omega) (by omega) (fun h9' => ?_) (fun h9' => ?_)
    · refine y_iload_n E dJ37_cardinality_30 (by rfl) ?_
      refine y_top (v' := .int (iI (cnt P 61))) (by congr 2; omega) ?_
      refine y_ireturn E F rfl rfl dJ37_cardinality_31 (by omega) (by omega) ⟨rfl, rfl⟩
    · exfalso
      omega
theorem c_J37_intersects {G : yH} {b b2 : Nat} {τ τ2 : Nat × Nat} {P P2 : Nat → Bool} (H : isBS G τ b P) (H2 : isBS G τ2 b2 P2) : Ct_J37_intersects Γ 2 0 0 [.ref b, .ref b2] G (fun r G' => r = some (.int (iI (b2i (decide (bW (fun j => P j && P2 j) 61 ≠ 0))))) ∧ G' = G) noX := by
  obtain ⟨q, f, u, y, h, hq, hf, hu⟩ := H
  obtain ⟨q2, f2, u2, y2, g, gq, gf, gu⟩ := H2
  refine y_start (lv0 := [some (.ref b), some (.ref b2), none]) (nm := "intersects") (own := RJ37) (by decide +kernel) rfl rfl (by first | exact Nat.le_of_ble_eq_true rfl | (simp only [yArgs, va_cat_rf]; simp [Value.category])) (by first | rfl | (simp only [yArgs, va_cat_rf]; simp [Value.category])) ?_
  intro Z Q E F
  first | refine y_ald_n E dJ37_intersects_0 (by rfl) ?_ | refine y_aload_n E dJ37_intersects_0 (by rfl) ?_
  refine y_get E dJ37_intersects_1 fl_J37_7_J37 (by assumption) (by rfl) ?_
  first | refine y_ald_n E dJ37_intersects_4 (by rfl) ?_ | refine y_aload_n E dJ37_intersects_4 (by rfl) ?_
  refine y_get E dJ37_intersects_5 fl_J37_7_J37 (by assumption) (by rfl) ?_
  refine y_mmin E dJ37_intersects_8 q1322 (by omega) (by omega) (by decide) (by omega) (by omega) (Nat.le_of_ble_eq_true rfl) ?_
  refine y_iconst E dJ37_intersects_11 ?_
  refine y_isub E dJ37_intersects_12 ?_
  refine y_istore_n (j := 2) E dJ37_intersects_13 rfl (Nat.le_of_ble_eq_true rfl) ?_
  refine y_iload_n E dJ37_intersects_14 (by rfl) ?_
  by_cases hb : u = 1 ∧ u2 = 1
  · obtain ⟨rfl, rfl⟩ := hb
    refine y_if_lt (tgt := 44) E dJ37_intersects_15 (by decide) (by omega) (fun h15 => ?_) (fun h15 => ?_)
    · exfalso
      omega
    · first | refine y_ald_n E dJ37_intersects_18 (by rfl) ?_ | refine y_aload_n E dJ37_intersects_18 (by rfl) ?_
      refine y_get E dJ37_intersects_19 fl_J37_11_J37 (by assumption) (by rfl) ?_
      refine y_iload_n E dJ37_intersects_22 (by rfl) ?_
      refine y_lald E dJ37_intersects_23 (by assumption) (by omega) ?_
      refine y_top (v' := .long (lN (bW P 61))) (by rw [← hf]; rfl) ?_
      first | refine y_ald_n E dJ37_intersects_24 (by rfl) ?_ | refine y_aload_n E dJ37_intersects_24 (by rfl) ?_
      refine y_get E dJ37_intersects_25 fl_J37_11_J37 (by assumption) (by rfl) ?_
      refine y_iload_n E dJ37_intersects_28 (by rfl) ?_
      refine y_lald E dJ37_intersects_29 (by assumption) (by omega) ?_
      refine y_top (v' := .long (lN (bW P2 61))) (by rw [← gf]; rfl) ?_
      refine y_land E dJ37_intersects_30 (wb_and (Nat.lt_trans (bW61 _) (by decide)) (Nat.lt_trans (bW61 _) (by decide))) ?_
      refine y_top (v' := .long (lN (bW (fun j => P j && P2 j) 61))) (by rw [bW_and]) ?_
      refine y_lconst E dJ37_intersects_31 ?_
      refine y_lcmp E dJ37_intersects_32 ?_
      refine y_top (v' := .int (iI (b2i (decide (bW (fun j => P j && P2 j) 61 ≠ 0))))) (congrArg Value.int (lcmp0 (Nat.lt_trans (bW61 _) (by decide)))) ?_
      refine y_ifb_eq (tgt := 38) E dJ37_intersects_33 (by decide) (fun hz => ?_) (fun hz => ?_)
      · refine y_iinc E dJ37_intersects_38 (by rfl) ?_
        refine y_goto (tgt := 14) E dJ37_intersects_41 (by decide) ?_
        refine y_iload_n E dJ37_intersects_14 (by rfl) ?_
        refine y_if_lt (tgt := 44) E dJ37_intersects_15 (by decide) (by omega) (fun h15' => ?_) (fun h15' => ?_)
        · refine y_iconst E dJ37_intersects_44 ?_
          refine y_top (v' := .int (iI (b2i (decide (bW (fun j => P j && P2 j) 61 ≠ 0))))) (by rw [hz]; rfl) ?_
          refine y_ireturn E F rfl (nar_b _) dJ37_intersects_45 (by omega) (by omega) ⟨rfl, rfl⟩
        · exfalso
          omega
      · refine y_iconst E dJ37_intersects_36 ?_
        refine y_top (v' := .int (iI (b2i (decide (bW (fun j => P j && P2 j) 61 ≠ 0))))) (by rw [hz]; rfl) ?_
        refine y_ireturn E F rfl (nar_b _) dJ37_intersects_37 (by omega) (by omega) ⟨rfl, rfl⟩
  · refine y_if_lt (tgt := 44) E dJ37_intersects_15 (by decide) (by omega) (fun h15 => ?_) (fun h15 => ?_)
    · have e : bW (fun j => P j && P2 j) 61 = 0 := by
        rw [← bW_and]
        have : bW P 61 = 0 ∨ bW P2 61 = 0 := by omega
        rcases this with e | e
        · rw [e]; exact Nat.zero_and _
        · rw [e]; exact Nat.and_zero _
      refine y_iconst E dJ37_intersects_44 ?_
      refine y_top (v' := .int (iI (b2i (decide (bW (fun j => P j && P2 j) 61 ≠ 0))))) (by rw [e]; rfl) ?_
      refine y_ireturn E F rfl (nar_b _) dJ37_intersects_45 (by omega) (by omega) ⟨rfl, rfl⟩
    · exfalso
      omega
theorem c_J37_length {G : yH} {b m : Nat} {τ : Nat × Nat} {P : Nat → Bool} (H : isBS G τ b P) (hm : m < 61) (h1 : P m = true) (h2 : ∀ j, m < j → j < 61 → P j = false) : Ct_J37_length Γ 3 0 0 [.ref b] G (fun r G' => r = some (.int (iI ((m + 1 : Nat) : Int))) ∧ G' = G) noX := by
  obtain ⟨q, f, u, y, h, hq, hf, hu⟩ := H
  obtain ⟨t1, t2⟩ := bW_top hm h1 h2
  have hp := Nat.two_pow_pos m
  have hu1 : u = 1 := by omega
  subst hu1
  refine y_start (lv0 := [some (.ref b)]) (nm := "length") (own := RJ37) (by decide +kernel) rfl rfl (by first | exact Nat.le_of_ble_eq_true rfl | (simp only [yArgs, va_cat_rf]; simp [Value.category])) (by first | rfl | (simp only [yArgs, va_cat_rf]; simp [Value.category])) ?_
  intro Z Q E F
  first | refine y_ald_n E dJ37_length_0 (by rfl) ?_ | refine y_aload_n E dJ37_length_0 (by rfl) ?_
  refine y_get E dJ37_length_1 fl_J37_7_J37 (by assumption) (by rfl) ?_
  refine y_if_ne (tgt := 9) E dJ37_length_4 (by decide) (by omega) (fun hb => ?_) (fun hb => ?_)
  · refine y_bipush E dJ37_length_9 (by decide) ?_
    first | refine y_ald_n E dJ37_length_11 (by rfl) ?_ | refine y_aload_n E dJ37_length_11 (by rfl) ?_
    refine y_get E dJ37_length_12 fl_J37_7_J37 (by assumption) (by rfl) ?_
    refine y_iconst E dJ37_length_15 ?_
    refine y_isub E dJ37_length_16 ?_
    refine y_imul E dJ37_length_17 ?_
    refine y_bipush E dJ37_length_18 (by decide) ?_
    first | refine y_ald_n E dJ37_length_20 (by rfl) ?_ | refine y_aload_n E dJ37_length_20 (by rfl) ?_
    refine y_get E dJ37_length_21 fl_J37_11_J37 (by assumption) (by rfl) ?_
    first | refine y_ald_n E dJ37_length_24 (by rfl) ?_ | refine y_aload_n E dJ37_length_24 (by rfl) ?_
    refine y_get E dJ37_length_25 fl_J37_7_J37 (by assumption) (by rfl) ?_
    refine y_iconst E dJ37_length_28 ?_
    refine y_isub E dJ37_length_29 ?_
    refine y_lald E dJ37_length_30 (by assumption) (by omega) ?_
    refine y_top (v' := .long (lN (bW P 61))) (by rw [← hf]; rfl) ?_
    refine y_callS E dJ37_length_31 lk_J37_190 (c_J40_nlz (x := bW P 61) (m := m) t1 t2 (by omega)) (by rfl) (by decide) (by omega) (by omega) rfl (Nat.le_of_ble_eq_true rfl) ?_ (fun _ _ _ h => h.elim)
    rintro v G' ⟨rfl, rfl⟩
    refine y_eq (st' := [.int (iI ((63 - m : Nat) : Int)), .int (iI 64), .int (iI (64 * (1 - 1)))]) rfl ?_
    refine y_isub E dJ37_length_34 ?_
    refine y_iadd E dJ37_length_35 ?_
    refine y_top (v' := .int (iI ((m + 1 : Nat) : Int))) (by congr 2; omega) ?_
    refine y_ireturn E F rfl rfl dJ37_length_36 (by omega) (by omega) ⟨rfl, rfl⟩
  · exfalso
    omega
theorem c_J37_nextSetBit {G : yH} {b m : Nat} {τ : Nat × Nat} {P : Nat → Bool} (H : isBS G τ b P) (hm : m < 61) (h1 : P m = true) (h2 : ∀ j, j < m → P j = false) : Ct_J37_nextSetBit Γ 3 0 0 [.ref b, .int (iI 0)] G (fun r G' => r = some (.int (iI m)) ∧ G' = G) noX := by
  obtain ⟨q, f, u, y, h, hq, hf, hu⟩ := H
  obtain ⟨r, t1⟩ := bW_low hm h1 h2
  have hnz : bW P 61 ≠ 0 := fun e => by have := bW_z.mp e m hm; rw [h1] at this; cases this
  have hu1 : u = 1 := by omega
  subst hu1
  refine y_start (lv0 := [some (.ref b), some (.int (iI 0)), none, none, none]) (nm := "nextSetBit") (own := RJ37) (by decide +kernel) rfl rfl (by first | exact Nat.le_of_ble_eq_true rfl | (simp only [yArgs, va_cat_rf]; simp [Value.category])) (by first | rfl | (simp only [yArgs, va_cat_rf]; simp [Value.category])) ?_
  intro Z Q E F
  refine y_iload_n E dJ37_nextSetBit_0 (by rfl) ?_
  refine y_if_ge (tgt := 31) E dJ37_nextSetBit_1 (by decide) (by omega) (fun hb => ?_) (fun hb => ?_)
  · first | refine y_ald_n E dJ37_nextSetBit_31 (by rfl) ?_ | refine y_aload_n E dJ37_nextSetBit_31 (by rfl) ?_
    refine y_callV E dJ37_nextSetBit_32 lk_J37_56 (c_J37_checkInvariants (b := b)) (by rfl) (h) rfl (by decide) (by omega) (by omega) rfl (Nat.le_of_ble_eq_true rfl) ?_ (fun _ _ _ h => h.elim)
    rintro v G2 ⟨rfl, rfl⟩
    refine y_iload_n E dJ37_nextSetBit_35 (by rfl) ?_
    refine y_callS E dJ37_nextSetBit_36 lk_J37_52 (c_J37_wordIndex (i := 0) (by omega)) (by rfl) (by decide) (by omega) (by omega) rfl (Nat.le_of_ble_eq_true rfl) ?_ (fun _ _ _ h => h.elim)
    rintro v G' ⟨rfl, rfl⟩
    refine y_eq (st' := [.int (iI 0)]) rfl ?_
    refine y_istore_n (j := 2) E dJ37_nextSetBit_39 rfl (Nat.le_of_ble_eq_true rfl) ?_
    refine y_iload_n E dJ37_nextSetBit_40 (by rfl) ?_
    first | refine y_ald_n E dJ37_nextSetBit_41 (by rfl) ?_ | refine y_aload_n E dJ37_nextSetBit_41 (by rfl) ?_
    refine y_get E dJ37_nextSetBit_42 fl_J37_7_J37 (by assumption) (by rfl) ?_
    refine y_icmp_lt (tgt := 50) E dJ37_nextSetBit_45 (by decide) (by omega) (by omega) (fun hc => ?_) (fun hc => ?_)
    · first | refine y_ald_n E dJ37_nextSetBit_50 (by rfl) ?_ | refine y_aload_n E dJ37_nextSetBit_50 (by rfl) ?_
      refine y_get E dJ37_nextSetBit_51 fl_J37_11_J37 (by assumption) (by rfl) ?_
      refine y_iload_n E dJ37_nextSetBit_54 (by rfl) ?_
      refine y_lald E dJ37_nextSetBit_55 (by assumption) (by omega) ?_
      refine y_top (v' := .long (lN (bW P 61))) (by rw [← hf]; rfl) ?_
      refine y_ldc2 E q1448 dJ37_nextSetBit_56 ?_
      refine y_iload_n E dJ37_nextSetBit_59 (by rfl) ?_
      refine y_lshl E dJ37_nextSetBit_60 rfl ?_
      have hand : lN (bW P 61) &&& (-1 : Int64) <<< ((iI 0).toInt64 &&& 63) = lN (bW P 61) := by
        rw [show (-1 : Int64) <<< ((iI 0).toInt64 &&& 63) = -1 from by decide]
        exact Int64.and_neg_one
      refine y_land E dJ37_nextSetBit_61 hand ?_
      refine y_lstore_n (j := 3) E dJ37_nextSetBit_62 rfl (Nat.le_of_ble_eq_true rfl) ?_
      refine y_lload_n E dJ37_nextSetBit_63 (by rfl) ?_
      refine y_lconst E dJ37_nextSetBit_64 ?_
      refine y_lcmp E dJ37_nextSetBit_65 ?_
      refine y_top (v' := .int (iI (b2i (decide (bW P 61 ≠ 0))))) (congrArg Value.int (lcmp0 (Nat.lt_trans (bW61 _) (by decide)))) ?_
      rw [decide_eq_true hnz]
      refine y_ifb_eq (tgt := 79) E dJ37_nextSetBit_66 (by decide) (fun hz => ?_) (fun hz => ?_)
      · cases hz
      · refine y_iload_n E dJ37_nextSetBit_69 (by rfl) ?_
        refine y_bipush E dJ37_nextSetBit_70 (by decide) ?_
        refine y_imul E dJ37_nextSetBit_72 ?_
        refine y_lload_n E dJ37_nextSetBit_73 (by rfl) ?_
        refine y_callS E dJ37_nextSetBit_74 lk_J37_182 (c_J40_ntz (n := bW P 61) (t := m) (q := r) t1 (by omega) (Nat.lt_trans (bW61 _) (by decide))) (by rfl) (by decide) (by omega) (by omega) rfl (Nat.le_of_ble_eq_true rfl) ?_ (fun _ _ _ h => h.elim)
        rintro v G' ⟨rfl, rfl⟩
        refine y_eq (st' := [.int (iI (m : Int)), .int (iI (0 * 64))]) rfl ?_
        refine y_iadd E dJ37_nextSetBit_77 ?_
        refine y_top (v' := .int (iI (m : Int))) (by congr 2; omega) ?_
        refine y_ireturn E F rfl rfl dJ37_nextSetBit_78 (by omega) (by omega) ⟨rfl, rfl⟩
    · exfalso
      omega
  · exfalso
    omega
end BSM
