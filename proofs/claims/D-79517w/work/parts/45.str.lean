/-! ===== new StringBuilder(CharSequence), toString, java.lang.String ===== -/
/-- a string a (Latin 1) with the characters cs, below 128 -/
def isStr (G : yH) (t : yT) (a : Nat) (cs : List Int) : Prop := ∃ (q : Nat) (f : Int → Int) (h z : Value), G a = some (t, .inr (16, [.ref q, .int (iI 0), h, z])) ∧ G q = some (t, aI 2 cs.length f) ∧ (∀ i : Int, 0 ≤ i → i < cs.length → 0 ≤ f i ∧ f i ≤ 127) ∧ ∀ i : Nat, i < cs.length → cs[i]? = some (f i)
theorem isStr.kk {P : Nat × Nat → Prop} {G G' : yH} {τ : Nat × Nat} {a : Nat} {cs : List Int} (H : isStr G (some τ) a cs) (hk : gK P G G') (hP : ¬ P τ) : isStr G' (some τ) a cs := by
  obtain ⟨q, f, h, z, h1, h2, h3⟩ := H
  exact ⟨q, f, h, z, hk.at h1 hP, hk.at h2 hP, h3⟩
section STR
section
variable {Γ : yG} {Z : yZ} {own : String} {cc : ByteArray} {ret : Option FieldType} {hh : List (Nat × Nat × Nat × Nat)} {L mc ms : Nat} {nm : String} {k n : Nat} {Q : State → Prop} {G : yH} {pc : Nat} {lv : List (Option Value)} {st : List Value}
theorem y_nmB (E : YE Γ Z own cc ret hh L mc ms nm) : (zs Z).vm.findClass "[B" = some (ydA Γ 2) := by
  have hKA : (zs Z).vm.findClass ("[" ++ FieldType.byte.toString) = some (ydA Γ 2) := (E.K.2 2 _ (yTys_at Γ (by decide))).2
  have e : "[" ++ FieldType.byte.toString = "[B" := by decide +kernel
  rw [e] at hKA
  exact hKA
theorem y_ccastB (E : YE Γ Z own cc ret hh L mc ms nm) {index N a : Nat} {w : Int → Int} {t : yT} (hd : decode cc pc = .ok (.checkcast index, 3)) (hl : Cond.classLink own index "[B" ∈ lw_all) (hG : G a = some (t, aI 2 N w)) (K : Y Γ Z k n Q G (pc + 3) lv (.ref a :: st)) : Y Γ Z k n Q G pc lv (.ref a :: st) := fun H locs ls a1 b c => va_castA E.x E.c E.o (E.w _ hl) (va_P_1 (a1.2.2 a _ hG).2) 0 rfl (y_nmB E) hd (K H locs ls a1 b c)
end
variable {Γ : yG}
set_option maxHeartbeats 4000000
theorem c_J5_init_2 {G : yH} {τ τ2 : Nat × Nat} {b s : Nat} {ds : List Int} {m : Nat} (h : G b = some (some τ, .inr (15, [.null, .int (iI 0), .int (iI 0), .int (iI 0)]))) (H : isSB G τ2 s ds m) (hn : ds.length ≤ 60) (ht : τ ≠ τ2) : Ct_J5_init_2 Γ 9 2 210 [.ref b, .ref s] G (fun r G' => r = none ∧ isSB G' τ b ds 0 ∧ gK (· = τ) G G') noX := by
  have H0 := H
  obtain ⟨p, cap, f, ml, g, gq, i3, i4, i5, i6, i7, i8⟩ := H
  have g' := g
  unfold sbE at g'
  have hbs : b ≠ s := g_ne h g (fun z => ht (Option.some.inj (congrArg Prod.fst z)))
  refine y_start (lv0 := [some (.ref b), some (.ref s), none, none, none, none, none]) (nm := "<init>") (own := RJ5) (by decide +kernel) rfl rfl (by first | exact Nat.le_of_ble_eq_true rfl | (simp only [yArgs, va_cat_rf]; simp [Value.category])) (by first | rfl | (simp only [yArgs, va_cat_rf]; simp [Value.category])) ?_
  intro Z Q E F
  first | refine y_ald_n E dJ5_init_2_0 (by rfl) ?_ | refine y_aload_n E dJ5_init_2_0 (by rfl) ?_
  refine y_objInit E dJ5_init_2_1 q269 q167 q168 (by decide) (Nat.le_of_ble_eq_true rfl) ?_
  first | refine y_ald_n E dJ5_init_2_4 (by rfl) ?_ | refine y_aload_n E dJ5_init_2_4 (by rfl) ?_
  refine y_callF E dJ5_init_2_5 lk_J5_47_J6 (c_J6_length H0) (by rfl) (g') rfl (by decide) (by omega) (by omega) rfl (Nat.le_of_ble_eq_true rfl) ?_ (fun _ _ _ h => h.elim)
  rintro v G1 ⟨rfl, rfl⟩
  refine y_eq (st' := [.int (iI (ds.length : Int))]) rfl ?_
  refine y_istore_n (j := 2) E dJ5_init_2_10 rfl (Nat.le_of_ble_eq_true rfl) ?_
  refine y_iload_n E dJ5_init_2_11 (by rfl) ?_
  refine y_if_ge (tgt := 42) E dJ5_init_2_12 (by decide) (by omega) (fun hb => ?_) (fun hb => ?_)
  · refine y_iload_n E dJ5_init_2_42 (by rfl) ?_
    refine y_ldc E q2004 dJ5_init_2_43 ?_
    refine y_top (v' := .int (iI 2147483631)) (by decide) ?_
    refine y_icmp_ge (tgt := 55) E dJ5_init_2_45 (by decide) (by omega) (by omega) (fun hb2 => ?_) (fun hb2 => ?_)
    · exfalso
      omega
    · refine y_iload_n E dJ5_init_2_48 (by rfl) ?_
      refine y_bipush E dJ5_init_2_49 (by decide) ?_
      refine y_iadd E dJ5_init_2_51 ?_
      refine y_goto (tgt := 57) E dJ5_init_2_52 (by decide) ?_
      refine y_istore_n (j := 3) E dJ5_init_2_57 rfl (Nat.le_of_ble_eq_true rfl) ?_
      refine y_gets E dJ5_init_2_58 E.zCS q270 (Or.inl rfl) ?_
      refine y_top (v' := .int (iI (b2i true))) rfl ?_
      refine y_ifb_eq (tgt := 130) E dJ5_init_2_61 (by decide) (fun hb3 => ?_) (fun hb3 => ?_)
      · cases hb3
      · first | refine y_ald_n E dJ5_init_2_64 (by rfl) ?_ | refine y_aload_n E dJ5_init_2_64 (by rfl) ?_
        refine y_inst E dJ5_init_2_65 q2005 g rfl (Or.inr q3090) ?_
        refine y_top (v' := .int (iI (b2i true))) rfl ?_
        refine y_ifb_eq (tgt := 101) E dJ5_init_2_68 (by decide) (fun hb4 => ?_) (fun hb4 => ?_)
        · cases hb4
        · first | refine y_ald_n E dJ5_init_2_71 (by rfl) ?_ | refine y_aload_n E dJ5_init_2_71 (by rfl) ?_
          refine y_ccast E dJ5_init_2_72 q2005 g rfl (Or.inr q3090) ?_
          first | refine y_ast E dJ5_init_2_75 (Nat.le_of_ble_eq_true rfl) ?_ | refine y_astore E dJ5_init_2_75 (Nat.le_of_ble_eq_true rfl) ?_ | refine y_astore (r := none) E dJ5_init_2_75 (Nat.le_of_ble_eq_true rfl) ?_
          first | refine y_ald E dJ5_init_2_77 (by rfl) ?_ | refine y_aload E dJ5_init_2_77 (by rfl) ?_
          refine y_callO E dJ5_init_2_79 lk_J5_70_J6 (c_J5_getCoder g) (by rfl) (g') rfl (by decide) (by omega) (by omega) rfl (Nat.le_of_ble_eq_true rfl) ?_ (fun _ _ _ h => h.elim)
          rintro v G1 ⟨rfl, rfl⟩
          refine y_eq (st' := [.int (iI 0)]) rfl ?_
          obtain ⟨z, hz, ho⟩ := i_or01 0 ml (Or.inl rfl) i6
          refine y_istore E dJ5_init_2_82 (Nat.le_of_ble_eq_true rfl) ?_
          first | refine y_ald_n E dJ5_init_2_84 (by rfl) ?_ | refine y_aload_n E dJ5_init_2_84 (by rfl) ?_
          refine y_dup E dJ5_init_2_85 rfl ?_
          refine y_get E dJ5_init_2_86 fl_J5_73_J6 (h) (by rfl) ?_
          first | refine y_ald E dJ5_init_2_89 (by rfl) ?_ | refine y_aload E dJ5_init_2_89 (by rfl) ?_
          refine y_get E dJ5_init_2_91 fl_J5_73_J6 (g') (by rfl) ?_
          refine y_ior E dJ5_init_2_94 ho ?_
          refine y_put E dJ5_init_2_95 fl_J5_73_J6 fw_J6_2 (nar_z hz) (fit_z hz) (h) (Nat.le_of_ble_eq_true rfl) ?_
          refine y_goto (tgt := 133) E dJ5_init_2_98 (by decide) ?_
          have h2 := gset_s G1 b (some τ, (.inr (15, [.null, .int (iI 0), .int (iI z), .int (iI 0)]) : yE))
          first | refine y_ald_n E dJ5_init_2_133 (by rfl) ?_ | refine y_aload_n E dJ5_init_2_133 (by rfl) ?_
          refine y_iload E dJ5_init_2_134 (by rfl) ?_
          refine y_put E dJ5_init_2_136 fl_J5_22_J6 fw_J6_1 rfl (by decide) (h2) (Nat.le_of_ble_eq_true rfl) ?_
          refine y_heap (gset_gset _ _ _ _) ?_
          first | refine y_ald_n E dJ5_init_2_139 (by rfl) ?_ | refine y_aload_n E dJ5_init_2_139 (by rfl) ?_
          refine y_iload E dJ5_init_2_140 (by rfl) ?_
          refine y_if_ne (tgt := 151) E dJ5_init_2_142 (by decide) (by omega) (fun hb5 => ?_) (fun hb5 => ?_)
          · exact absurd rfl hb5
          · refine y_iload_n E dJ5_init_2_145 (by rfl) ?_
            refine y_newB E τ q293 dJ5_init_2_146 (by omega) (by omega) (by omega) (fun q hq => ?_)
            have h3 := gset_s G1 b (some τ, (.inr (15, [.null, .int (iI 0), .int (iI z), .int (iI 0)]) : yE))
            have hbq : b ≠ q := g_nn h3 hq
            refine y_goto (tgt := 155) E dJ5_init_2_148 (by decide) ?_
            refine y_put E dJ5_init_2_155 fl_J5_15_J6 fw_J6_0 (by first | rfl | exact nar_r _ _) (by first | rfl | exact fit_r _ _) (gs_n hbq h3) (Nat.le_of_ble_eq_true rfl) ?_
            first | refine y_ald_n E dJ5_init_2_158 (by rfl) ?_ | refine y_aload_n E dJ5_init_2_158 (by rfl) ?_
            first | refine y_ald_n E dJ5_init_2_159 (by rfl) ?_ | refine y_aload_n E dJ5_init_2_159 (by rfl) ?_
            have k1 := gK_w (P := (· = τ)) (some τ, (.inr (15, [.null, .int (iI 0), .int (iI z), .int (iI 0)]) : yE)) h rfl
            have k2 := gK_t k1 (gK_n (P := (· = τ)) (some τ, aI 2 ((ds.length : Int) + 16).toNat (fun _ => 0)) hq)
            have k3 := gK_t k2 (gK_w (P := (· = τ)) (some τ, (.inr (15, [.ref q, .int (iI 0), .int (iI z), .int (iI 0)]) : yE)) (gs_n hbq h3) rfl)
            have hsb : isSB (gset (gset (gset G1 b (some τ, (.inr (15, [.null, .int (iI 0), .int (iI z), .int (iI 0)]) : yE))) q (some τ, aI 2 ((ds.length : Int) + 16).toNat (fun _ => 0))) b (some τ, (.inr (15, [.ref q, .int (iI 0), .int (iI z), .int (iI 0)]) : yE))) τ b [] 0 := ⟨q, _, _, z, gset_s _ _ _, gs_n hbq.symm (gset_s _ _ _), by simp, by omega, by omega, hz, fun i => ⟨Int.le_refl 0, by decide⟩, fun i hi => by simp at hi⟩
            refine y_callO E dJ5_init_2_160 lk_J5_76_J6 (c_J6_append_4 hsb (H0.kk k3 (fun e => ht e.symm)) (by simp; omega) ht) (by rfl) (gset_s _ _ _) rfl (by decide) (by omega) (by omega) rfl (Nat.le_of_ble_eq_true rfl) ?_ (fun _ _ _ h => h.elim)
            rintro v G2 ⟨rfl, a1, a2⟩
            refine y_eq (st' := [.ref b]) rfl ?_
            refine y_pop E dJ5_init_2_163 rfl ?_
            refine y_return E F rfl dJ5_init_2_164 (by omega) (by omega) ⟨rfl, a1, gK_t k3 a2⟩
  · exfalso
    omega
theorem c_J6_init_2 {G : yH} {τ τ2 : Nat × Nat} {b s : Nat} {ds : List Int} {m : Nat} (h : G b = some (some τ, .inr (15, [.null, .int (iI 0), .int (iI 0), .int (iI 0)]))) (H : isSB G τ2 s ds m) (hn : ds.length ≤ 60) (ht : τ ≠ τ2) : Ct_J6_init_2 Γ 10 2 210 [.ref b, .ref s] G (fun r G' => r = none ∧ isSB G' τ b ds 0 ∧ gK (· = τ) G G') noX := by
  refine y_start (lv0 := [some (.ref b), some (.ref s)]) (nm := "<init>") (own := RJ6) (by decide +kernel) rfl rfl (by first | exact Nat.le_of_ble_eq_true rfl | (simp only [yArgs, va_cat_rf]; simp [Value.category])) (by first | rfl | (simp only [yArgs, va_cat_rf]; simp [Value.category])) ?_
  intro Z Q E F
  first | refine y_ald_n E dJ6_init_2_0 (by rfl) ?_ | refine y_aload_n E dJ6_init_2_0 (by rfl) ?_
  first | refine y_ald_n E dJ6_init_2_1 (by rfl) ?_ | refine y_aload_n E dJ6_init_2_1 (by rfl) ?_
  refine y_callI E dJ6_init_2_2 lk_J6_10 (c_J5_init_2 h H hn ht) (by rfl) (by decide) (by omega) (by omega) rfl (Nat.le_of_ble_eq_true rfl) ?_ (fun _ _ _ h => h.elim)
  rintro v G1 ⟨rfl, a1, a2⟩
  refine y_return E F rfl dJ6_init_2_5 (by omega) (by omega) ⟨rfl, a1, a2⟩
theorem c_J28_checkLength {G : yH} {a b : Int} (h : a ≤ b) (h1 : inR a) (h2 : inR b) : Ct_J28_checkLength Γ 1 0 0 [.int (iI a), .int (iI b)] G (fun r G' => r = none ∧ G' = G) noX := by
  refine y_start (lv0 := [some (.int (iI a)), some (.int (iI b))]) (nm := "checkLength") (own := RJ28) (by decide +kernel) rfl rfl (by first | exact Nat.le_of_ble_eq_true rfl | (simp only [yArgs, va_cat_rf]; simp [Value.category])) (by first | rfl | (simp only [yArgs, va_cat_rf]; simp [Value.category])) ?_
  intro Z Q E F
  refine y_iload_n E dJ28_checkLength_0 (by rfl) ?_
  refine y_iload_n E dJ28_checkLength_1 (by rfl) ?_
  refine y_icmp_ge (tgt := 37) E dJ28_checkLength_2 (by decide) (by omega) (by omega) (fun hb => ?_) (fun hb => ?_)
  · refine y_return E F rfl dJ28_checkLength_37 (by omega) (by omega) ⟨rfl, rfl⟩
  · exfalso
    omega
theorem c_J28_copyOfRangeByte {G : yH} {q N n : Nat} {t : yT} (τ : Nat × Nat) {f : Int → Int} (h : G q = some (t, aI 2 N f)) (hn : n ≤ N) (hN : N ≤ 60000) (hf : ∀ i : Int, 0 ≤ i → i < n → 0 ≤ f i ∧ f i ≤ 127) : Ct_J28_copyOfRangeByte Γ 2 1 n [.ref q, .int (iI 0), .int (iI n)] G (fun r G' => ∃ a, G a = none ∧ r = some (.ref a) ∧ G' = gset G a (some τ, aI 2 n (cpI f (fun _ => 0) 0 0 n))) noX := by
  refine y_start (lv0 := [some (.ref q), some (.int (iI 0)), some (.int (iI n)), none, none]) (nm := "copyOfRangeByte") (own := RJ28) (by decide +kernel) rfl rfl (by first | exact Nat.le_of_ble_eq_true rfl | (simp only [yArgs, va_cat_rf]; simp [Value.category])) (by first | rfl | (simp only [yArgs, va_cat_rf]; simp [Value.category])) ?_
  intro Z Q E F
  refine y_iload_n E dJ28_copyOfRangeByte_0 (by rfl) ?_
  refine y_iload_n E dJ28_copyOfRangeByte_1 (by rfl) ?_
  refine y_callS E dJ28_copyOfRangeByte_2 lk_J28_343 (c_J28_checkLength (G := G) (a := 0) (b := n) (by omega) (by omega) (by omega)) (by rfl) (by decide) (by omega) (by omega) rfl (Nat.le_of_ble_eq_true rfl) ?_ (fun _ _ _ h => h.elim)
  rintro v G1 ⟨rfl, rfl⟩
  refine y_iload_n E dJ28_copyOfRangeByte_5 (by rfl) ?_
  refine y_iload_n E dJ28_copyOfRangeByte_6 (by rfl) ?_
  refine y_isub E dJ28_copyOfRangeByte_7 ?_
  refine y_top (v' := .int (iI (n : Int))) (by first | rfl | (congr 2; omega)) ?_
  refine y_istore_n (j := 3) E dJ28_copyOfRangeByte_8 rfl (Nat.le_of_ble_eq_true rfl) ?_
  refine y_iload_n E dJ28_copyOfRangeByte_9 (by rfl) ?_
  refine y_newB E τ q293 dJ28_copyOfRangeByte_10 (by omega) (by omega) (by omega) (fun a ha => ?_)
  have hqa : q ≠ a := g_nn h ha
  first | refine y_ast E dJ28_copyOfRangeByte_12 (Nat.le_of_ble_eq_true rfl) ?_ | refine y_astore E dJ28_copyOfRangeByte_12 (Nat.le_of_ble_eq_true rfl) ?_ | refine y_astore (r := none) E dJ28_copyOfRangeByte_12 (Nat.le_of_ble_eq_true rfl) ?_
  first | refine y_ald_n E dJ28_copyOfRangeByte_14 (by rfl) ?_ | refine y_aload_n E dJ28_copyOfRangeByte_14 (by rfl) ?_
  refine y_iload_n E dJ28_copyOfRangeByte_15 (by rfl) ?_
  first | refine y_ald E dJ28_copyOfRangeByte_16 (by rfl) ?_ | refine y_aload E dJ28_copyOfRangeByte_16 (by rfl) ?_
  refine y_iconst E dJ28_copyOfRangeByte_18 ?_
  first | refine y_ald_n E dJ28_copyOfRangeByte_19 (by rfl) ?_ | refine y_aload_n E dJ28_copyOfRangeByte_19 (by rfl) ?_
  first | refine y_alenI E dJ28_copyOfRangeByte_20 (gs_n hqa h) (by decide) ?_ | refine y_alenR E dJ28_copyOfRangeByte_20 (gs_n hqa h) (by decide) ?_ | refine y_alenL E dJ28_copyOfRangeByte_20 (gs_n hqa h) ?_
  refine y_iload_n E dJ28_copyOfRangeByte_21 (by rfl) ?_
  refine y_isub E dJ28_copyOfRangeByte_22 ?_
  refine y_iload_n E dJ28_copyOfRangeByte_23 (by rfl) ?_
  refine y_mmin E dJ28_copyOfRangeByte_24 q629 (by omega) (by omega) (by decide) (by omega) (by omega) (Nat.le_of_ble_eq_true rfl) ?_
  refine y_top (v' := .int (iI (n : Int))) (by congr 2; omega) ?_
  refine y_copyI E dJ28_copyOfRangeByte_27 ⟨q632, q634, q633, q138⟩ (by decide) rfl (gs_n hqa h) (gset_s _ _ _) (by omega) (fun i h1 h2 => (byteI (hf _ (by omega) (by omega))).2.2.1) (by decide) (Nat.le_of_ble_eq_true rfl) ?_
  refine y_heap (gset_gset _ _ _ _) ?_
  first | refine y_ald E dJ28_copyOfRangeByte_30 (by rfl) ?_ | refine y_aload E dJ28_copyOfRangeByte_30 (by rfl) ?_
  refine y_areturn (r := some a) E F rfl (Or.inr ⟨_, rfl⟩) dJ28_copyOfRangeByte_32 (by omega) (by omega) ⟨a, ha, rfl, rfl⟩
theorem c_J28_copyOfRange {G : yH} {q N n : Nat} {t : yT} (τ : Nat × Nat) {f : Int → Int} (h : G q = some (t, aI 2 N f)) (hn : n ≤ N) (hN : N ≤ 60000) (hf : ∀ i : Int, 0 ≤ f i ∧ f i ≤ 127) : Ct_J28_copyOfRange Γ 3 1 n [.ref q, .int (iI 0), .int (iI n)] G (fun r G' => ∃ a g, G a = none ∧ r = some (.ref a) ∧ G' = gset G a (some τ, aI 2 n g) ∧ ∀ i : Int, 0 ≤ i → i < n → g i = f i) noX := by
  refine y_start (lv0 := [some (.ref q), some (.int (iI 0)), some (.int (iI n))]) (nm := "copyOfRange") (own := RJ28) (by decide +kernel) rfl rfl (by first | exact Nat.le_of_ble_eq_true rfl | (simp only [yArgs, va_cat_rf]; simp [Value.category])) (by first | rfl | (simp only [yArgs, va_cat_rf]; simp [Value.category])) ?_
  intro Z Q E F
  refine y_iload_n E dJ28_copyOfRange_0 (by rfl) ?_
  refine y_if_ne (tgt := 10) E dJ28_copyOfRange_1 (by decide) (by omega) (fun hb => ?_) (fun hb => ?_)
  · exact absurd rfl hb
  · refine y_iload_n E dJ28_copyOfRange_4 (by rfl) ?_
    first | refine y_ald_n E dJ28_copyOfRange_5 (by rfl) ?_ | refine y_aload_n E dJ28_copyOfRange_5 (by rfl) ?_
    first | refine y_alenI E dJ28_copyOfRange_6 (by assumption) (by decide) ?_ | refine y_alenR E dJ28_copyOfRange_6 (by assumption) (by decide) ?_ | refine y_alenL E dJ28_copyOfRange_6 (by assumption) ?_
    refine y_icmp_eq (tgt := 17) E dJ28_copyOfRange_7 (by decide) (by omega) (by omega) (fun hc => ?_) (fun hc => ?_)
    · have hnN : N = n := by omega
      subst hnN
      first | refine y_ald_n E dJ28_copyOfRange_17 (by rfl) ?_ | refine y_aload_n E dJ28_copyOfRange_17 (by rfl) ?_
      refine y_cloneB E τ dJ28_copyOfRange_18 q622 h (fun i _ => (byteI (hf _)).2.2.1) (by decide) (by omega) (by omega) (Nat.le_of_ble_eq_true rfl) (fun a ha => ?_)
      refine y_ccastB E dJ28_copyOfRange_21 q628 (gset_s _ _ _) ?_
      refine y_areturn (r := some a) E F rfl (Or.inr ⟨_, rfl⟩) dJ28_copyOfRange_24 (by omega) (by omega) ⟨a, f, ha, rfl, rfl, fun i _ _ => rfl⟩
    · first | refine y_ald_n E dJ28_copyOfRange_10 (by rfl) ?_ | refine y_aload_n E dJ28_copyOfRange_10 (by rfl) ?_
      refine y_iload_n E dJ28_copyOfRange_11 (by rfl) ?_
      refine y_iload_n E dJ28_copyOfRange_12 (by rfl) ?_
      refine y_callS E dJ28_copyOfRange_13 lk_J28_339 (c_J28_copyOfRangeByte (n := n) τ h hn hN (fun i _ _ => hf i)) (by rfl) (by decide) (by omega) (by omega) rfl (Nat.le_of_ble_eq_true rfl) ?_ (fun _ _ _ h => h.elim)
      rintro v G1 ⟨a, ha, rfl, rfl⟩
      refine y_areturn (r := some a) E F rfl (Or.inr ⟨_, rfl⟩) dJ28_copyOfRange_16 (by omega) (by omega) ⟨a, _, ha, rfl, rfl, fun i h1 h2 => ?_⟩
      unfold cpI
      rw [if_pos (by omega)]
      congr 1
      omega
theorem c_J5_getValue {G : yH} {b q : Nat} {t : yT} {ml n : Int} (h : G b = some (t, sbE q ml n)) : Ct_J5_getValue Γ 1 0 0 [.ref b] G (fun r G' => r = some (.ref q) ∧ G' = G) noX := by
  unfold sbE at h
  refine y_start (lv0 := [some (.ref b)]) (nm := "getValue") (own := RJ5) (by decide +kernel) rfl rfl (by first | exact Nat.le_of_ble_eq_true rfl | (simp only [yArgs, va_cat_rf]; simp [Value.category])) (by first | rfl | (simp only [yArgs, va_cat_rf]; simp [Value.category])) ?_
  intro Z Q E F
  first | refine y_ald_n E dJ5_getValue_0 (by rfl) ?_ | refine y_aload_n E dJ5_getValue_0 (by rfl) ?_
  refine y_get E dJ5_getValue_1 fl_J5_15_J6 (by assumption) (by rfl) ?_
  refine y_areturn (r := some q) E F rfl (Or.inr ⟨_, rfl⟩) dJ5_getValue_4 (by omega) (by omega) ⟨rfl, rfl⟩
theorem c_J7_init_2 {G : yH} {τ τ2 : Nat × Nat} {a b : Nat} {cs : List Int} {m : Nat} (h : G a = some (some τ, .inr (16, [.null, .int (iI 0), .int (iI 0), .int (iI 0)]))) (H : isSB G τ2 b cs m) (ht : τ ≠ τ2) : Ct_J7_init_2 Γ 4 1 cs.length [.ref a, .ref b, .null] G (fun r G' => r = none ∧ isStr G' (some τ) a cs ∧ gK (· = τ) G G') noX := by
  have H0 := H
  obtain ⟨q, cap, f, ml, g, gq, i3, i4, i5, i6, i7, i8⟩ := H
  have hab : a ≠ b := g_ne h g (fun z => ht (Option.some.inj (congrArg Prod.fst z)))
  refine y_start (lv0 := [some (.ref a), some (.ref b), some .null, none, none]) (nm := "<init>") (own := RJ7) (by decide +kernel) rfl rfl (by first | exact Nat.le_of_ble_eq_true rfl | (simp only [yArgs, va_cat_rf]; simp [Value.category])) (by first | rfl | (simp only [yArgs, va_cat_rf]; simp [Value.category])) ?_
  intro Z Q E F
  first | refine y_ald_n E dJ7_init_2_0 (by rfl) ?_ | refine y_aload_n E dJ7_init_2_0 (by rfl) ?_
  refine y_objInit E dJ7_init_2_1 q747 q167 q168 (by decide) (Nat.le_of_ble_eq_true rfl) ?_
  first | refine y_ald_n E dJ7_init_2_4 (by rfl) ?_ | refine y_aload_n E dJ7_init_2_4 (by rfl) ?_
  refine y_callO E dJ7_init_2_5 lk_J7_552_J6 (c_J5_getValue g) (by rfl) (g) rfl (by decide) (by omega) (by omega) rfl (Nat.le_of_ble_eq_true rfl) ?_ (fun _ _ _ h => h.elim)
  rintro v G1 ⟨rfl, rfl⟩
  refine y_eq (st' := [.ref q]) rfl ?_
  first | refine y_ast_n (j := 3) E dJ7_init_2_8 rfl (Nat.le_of_ble_eq_true rfl) ?_ | refine y_astore_n (j := 3) E dJ7_init_2_8 rfl (Nat.le_of_ble_eq_true rfl) ?_ | refine y_astore_n (j := 3) (r := none) E dJ7_init_2_8 rfl (Nat.le_of_ble_eq_true rfl) ?_
  first | refine y_ald_n E dJ7_init_2_9 (by rfl) ?_ | refine y_aload_n E dJ7_init_2_9 (by rfl) ?_
  refine y_callO E dJ7_init_2_10 lk_J7_549_J6 (c_J6_length H0) (by rfl) (g) rfl (by decide) (by omega) (by omega) rfl (Nat.le_of_ble_eq_true rfl) ?_ (fun _ _ _ h => h.elim)
  rintro v G1 ⟨rfl, rfl⟩
  refine y_eq (st' := [.int (iI (cs.length : Int))]) rfl ?_
  refine y_istore E dJ7_init_2_13 (Nat.le_of_ble_eq_true rfl) ?_
  first | refine y_ald_n E dJ7_init_2_15 (by rfl) ?_ | refine y_aload_n E dJ7_init_2_15 (by rfl) ?_
  refine y_callO E dJ7_init_2_16 lk_J7_1047_J6 (c_J5_isLatin1 g) (by rfl) (g) rfl (by decide) (by omega) (by omega) rfl (Nat.le_of_ble_eq_true rfl) ?_ (fun _ _ _ h => h.elim)
  rintro v G1 ⟨rfl, rfl⟩
  refine y_eq (st' := [.int (iI (b2i true))]) rfl ?_
  refine y_ifb_eq (tgt := 41) E dJ7_init_2_19 (by decide) (fun hb => ?_) (fun hb => ?_)
  · cases hb
  · first | refine y_ald_n E dJ7_init_2_22 (by rfl) ?_ | refine y_aload_n E dJ7_init_2_22 (by rfl) ?_
    refine y_iconst E dJ7_init_2_23 ?_
    refine y_putF E dJ7_init_2_24 fl_J7_15_J7 fw_J7_1 (fun q h => by cases h; rfl) rfl (by decide) (h) (Nat.le_of_ble_eq_true rfl) ?_
    first | refine y_ald_n E dJ7_init_2_27 (by rfl) ?_ | refine y_aload_n E dJ7_init_2_27 (by rfl) ?_
    first | refine y_ald_n E dJ7_init_2_28 (by rfl) ?_ | refine y_aload_n E dJ7_init_2_28 (by rfl) ?_
    refine y_iconst E dJ7_init_2_29 ?_
    refine y_iload E dJ7_init_2_30 (by rfl) ?_
    have haq : a ≠ q := g_ne h gq (by simp [aI])
    refine y_callS E dJ7_init_2_32 lk_J7_54 (c_J28_copyOfRange (q := q) (N := cap) (n := cs.length) τ (gs_n haq.symm gq) i3 (by omega) i7) (by rfl) (by decide) (by omega) (by omega) rfl (Nat.le_of_ble_eq_true rfl) ?_ (fun _ _ _ h => h.elim)
    rintro v G2 ⟨a2, f2, ha2, rfl, rfl, hf2⟩
    have haa : a ≠ a2 := g_nn (gset_s G1 a _) ha2
    refine y_putF E dJ7_init_2_35 fl_J7_9_J7 fw_J7_0 (fun q h => by cases h; rfl) (by first | rfl | exact nar_r _ _) (by first | rfl | exact fit_r _ _) (gs_n haa (gset_s _ _ _)) (Nat.le_of_ble_eq_true rfl) ?_
    refine y_goto (tgt := 97) E dJ7_init_2_38 (by decide) ?_
    refine y_return E F rfl dJ7_init_2_97 (by omega) (by omega) ⟨rfl, ⟨a2, f2, _, _, gset_s _ _ _, gs_n haa.symm (gset_s _ _ _), fun i h1 h2 => by rw [hf2 i h1 h2]; exact i7 i, fun i hi => by rw [hf2 i (by omega) (by omega)]; exact i8 i hi⟩, gK_t (gK_w _ h rfl) (gK_t (gK_n _ ha2) (gK_w _ (gs_n haa (gset_s _ _ _)) rfl))⟩
end STR
