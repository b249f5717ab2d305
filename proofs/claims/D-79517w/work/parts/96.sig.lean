/-! ===== State.signalsTo ===== -/
section Sg
variable {Γ : yG} {G : yH} {st a : Nat} {S : SA} {w : Int → Int}
theorem isAQ.c {τ : Nat × Nat} {a h : Nat} {xs : List Nat} (H : isAQ G τ a h xs) : ∃ fs, G a = some (some τ, .inr (14, fs)) := by
  obtain ⟨q, f, h1, -⟩ := H
  exact ⟨_, h1⟩
theorem gE_0 {G G' : yH} (h : gExt G G') {q : Nat} (hq : G' q = none) : G q = none := by
  cases e : G q with
  | none => rfl
  | some v =>
    rw [h q v e] at hq
    cases hq
theorem gE_K {τ : Nat × Nat} {G G1 G2 : yH} (h : gExt G G1) (hk : gK (· = τ) G1 G2) (hF : gF τ G) : gExt G G2 := fun p v e => by
  obtain ⟨t, e2⟩ := v
  refine hk p t e2 (h p _ e) (fun τ' hτ z => ?_)
  subst hτ
  have z : τ' = τ := z
  subst z
  exact hF p e2 e
/-- the rest as it was, this one cell changed -/
theorem gE_s {G G1 : yH} {q : Nat} {v v' : yT × yE} (h : gExt (gset G q v) G1) : gExt (gset G q v') (gset G1 q v') := fun p u e => by
  by_cases d : p = q
  · rw [d, gset_s] at e ⊢
    exact e
  · rw [gset_n _ d] at e ⊢
    exact h p u (by rw [gset_n _ d]; exact e)
theorem nd_app {ys : List Nat} {i : Nat} (h : ys.Nodup) (hi : i ∉ ys) : (ys ++ [i]).Nodup := by
  rw [List.nodup_append]
  refine ⟨h, by simp, fun y hy z hz e => ?_⟩
  rw [List.mem_singleton] at hz
  rw [e, hz] at hy
  exact hi hy
theorem cN_0 {f : Int → Int} (h : ∀ j, 0 ≤ j → j < 8 → f j < 0) : cN f = 0 := by
  have := sumI_b (f := fun j => b2i (dB (0 ≤ f j))) (n := 8) (m := 0) (fun k k0 k1 => by rw [b2i_df (show ¬ 0 ≤ f k by have := h k k0 k1; omega)]; omega) (by omega)
  unfold cN
  omega
set_option maxHeartbeats 4000000
theorem c_X2_signalsTo (τ : Nat × Nat) (hτ : τ ≠ (0, 98)) (hτ0 : τ ≠ yT0) (hτ1 : τ ≠ (st, 1)) (hs1 : 0 < st) (hB : gB Γ G) (hO : gF (0, 98) G) (hI : isST Γ G st a S w) (hS : SH w) (hL : LSW w) {t : Nat} (ht : (t : Int) < w 10) : Ct_X2_signalsTo Γ 5 11 60 [.ref a, .ref (sTa S t)] (G) (fun v G' => ∃ q f, v = some (.ref q) ∧ G q = none ∧ G' = gset G q (some τ, aI 0 8 f) ∧ ∀ j, 0 ≤ j → j < 8 → f j = dS w t j) (noX) := by
  refine y_start (lv0 := [some (.ref a), some (.ref (sTa S t)), none, none, none, none, none]) (nm := "signalsTo") (own := RX2) (by decide +kernel) rfl rfl (by exact Nat.le_of_ble_eq_true rfl) (by rfl) ?_
  intro Z Q E F
  have hn := hS.nt
  have hlen := twL_len S w
  have htw := isST_t hI ht
  unfold twX at htw
  have hF : ∀ {q : Nat} (f : Int → Int), gF (0, 98) (gset G q (some τ, aI 0 8 f)) := fun f => gF_set hO hτ
  have main : ∀ (q2 dq : Nat), G q2 = none → ∀ h : Nat, ∀ (xs : List Nat) (f : Int → Int) (u r : Int) (G1 : yH) (l4 l5 l6 : Option Value), BQ w t f xs u r → (0 ≤ u → ∀ q, 0 ≤ q → q < w 10 → csP w q u → 0 ≤ f q) → cN f = h + xs.length → xs.Nodup → isAQ G1 (0, 98) dq h (xs.map (sTa S)) → gExt (gset G q2 (some τ, aI 0 8 f)) G1 → Y Γ Z (3 + h) (28 + 4 * h) Q G1 44 [some (.ref a), some (.ref (sTa S t)), some (.ref q2), some (.ref dq), l4, l5, l6] [] := by
    intro q2 dq hq2
    refine loopDownN 9 ?_
    intro h ih xs f u r G1 l4 l5 l6 hbq hcl hc hnd haq hE
    have hcb := cN_b f
    obtain ⟨fq, haqc⟩ := haq.c
    cases xs with
    | nil =>
      first | refine y_ald_n E dX2_signalsTo_44 (by rfl) ?_ | refine y_aload_n E dX2_signalsTo_44 (by rfl) ?_
      refine y_callV E dX2_signalsTo_45 lk_X2_183 (c_J38_isEmpty haq) (by rfl) (haqc) rfl (by decide) (by omega) (by omega) rfl (Nat.le_of_ble_eq_true rfl) ?_ (fun _ _ _ h => h.elim)
      rintro _ _ ⟨rfl, hG9⟩
      rw [hG9]
      clear hG9
      refine y_ifb_ne (tgt := 141) E dX2_signalsTo_48 (by decide) (fun h48 => ?_) (fun h48 => ?_)
      · refine y_forget hE ?_
        first | refine y_ald_n E dX2_signalsTo_141 (by rfl) ?_ | refine y_aload_n E dX2_signalsTo_141 (by rfl) ?_
        refine y_areturn (r := some _) E F rfl (by first | exact Or.inl ⟨_, rfl⟩ | exact Or.inr ⟨_, rfl⟩) dX2_signalsTo_142 (by omega) (by omega) ⟨q2, f, rfl, hq2, rfl, BQ_fin hn.2 hbq hcl⟩
      · simp at h48
    | cons x xs =>
      have hxx : x ∉ xs := (List.nodup_cons.mp hnd).1
      have hnd2 := (List.nodup_cons.mp hnd).2
      have hbp := BQ_pop hxx hbq hcl
      have hxw := (hbq.2.2.1 x (by simp)).1
      rw [List.length_cons] at hc
      rw [List.map_cons] at haq
      have inner : ∀ it, G it = none → it ≠ q2 → ∀ i : Nat, ∀ (f : Int → Int) (ys : List Nat) (G1 : yH) (l6 : Option Value) (r : Int), BQ w t f ys x r → (∀ q : Int, 0 ≤ q → q < (i : Int) → csP w q x → 0 ≤ f q) → cN f = ((h + 1 : Nat) : Int) + ys.length → ys.Nodup → isAQ G1 (0, 98) dq (h + 1) (ys.map (sTa S)) → isIT Γ G1 it (sTl S) (st, 1) (twL S w) i → gExt (gset G q2 (some τ, aI 0 8 f)) G1 → (i : Int) ≤ w 10 → Y Γ Z (3 + h + 1) (28 + 4 * h + 4) Q G1 69 [some (.ref a), some (.ref (sTa S t)), some (.ref q2), some (.ref dq), some (.ref (sTa S x)), some (.ref it), l6] [] := by
        intro it hi0 hiq
        refine loopDownN (w 10).toNat ?_
        intro i ihi f ys G1 l6 r hbq hfi hc hnd haq hit hE hi
        have hcb := cN_b f
        obtain ⟨fs, hitc⟩ := hit.c
        have hx2 := hbq.2.2.2.2.2.1 (by omega)
        have hr0 := hbq.2.2.2.2.2.2
        have hf1 := hbq.1
        have hdi := fun h : (i : Int) < 8 => dS_in (w := w) (o := (t : Int)) (t := (i : Int)) hn (by omega)
        have hdx := dS_in (w := w) (o := (t : Int)) (t := (x : Int)) hn (by omega)
        have hfx := hf1 x (by omega) (by omega)
        first | refine y_ald E dX2_signalsTo_69 (by rfl) ?_ | refine y_aload E dX2_signalsTo_69 (by rfl) ?_
        refine y_callF E dX2_signalsTo_71 lk_X2_37_J24 (c_it_has hit (by omega)) (by rfl) (hitc) rfl (by decide) (by omega) (by omega) rfl (Nat.le_of_ble_eq_true rfl) ?_ (fun _ _ _ h => h.elim)
        rintro _ _ ⟨rfl, hG9⟩
        rw [hG9]
        clear hG9
        refine y_ifd_eq (tgt := 138) E dX2_signalsTo_76 (by decide) (fun h76 => ?_) (fun h76 => ?_)
        · refine y_goto (tgt := 44) E dX2_signalsTo_138 (by decide) ?_
          exact y_widen (by omega) (by omega) (ih (by omega) ys f x r G1 _ _ _ hbq (fun _ q q0 q1 => hfi q q0 (by omega)) hc hnd haq hE)
        · first | refine y_ald E dX2_signalsTo_79 (by rfl) ?_ | refine y_aload E dX2_signalsTo_79 (by rfl) ?_
          refine y_callF E dX2_signalsTo_81 lk_X2_43_J24 (c_it_next hit (twL_at (by omega))) (by rfl) (hitc) rfl (by decide) (by omega) (by omega) rfl (Nat.le_of_ble_eq_true rfl) ?_ (fun _ _ _ h => h.elim)
          rintro _ G2 ⟨rfl, hit2, vv, hG9⟩
          have hfi0 := hf1 i (by omega) (by omega)
          have hdi := hdi (by omega)
          have hE2 : gExt (gset G q2 (some τ, aI 0 8 f)) G2 := by rw [hG9]; exact gExt_w hE _ (by rw [gset_n _ hiq]; exact hi0)
          have hE0 := gExt_t (gExt_n hq2) hE2
          have hB2 := hB.e hE0
          have hI2 := hI.e hB hE0
          have hst2 := hI2.1
          have hf2 := hE2 _ _ (gset_s G q2 (some τ, aI 0 8 f))
          have hxw2 := isST_t hI2 hxw
          have hiw := isST_t hI2 (t := i) (by omega)
          unfold twX at hiw hxw2
          have haq2 : isAQ G2 (0, 98) dq (h + 1) (ys.map (sTa S)) := by rw [hG9]; exact haq.kk (gK_w (P := (· = yT0)) _ hitc rfl) (by simp [yT0])
          refine y_ccast E dX2_signalsTo_86 q1008 (hiw) rfl (Or.inl rfl) ?_
          first | refine y_ast E dX2_signalsTo_89 (Nat.le_of_ble_eq_true rfl) ?_ | refine y_astore E dX2_signalsTo_89 (Nat.le_of_ble_eq_true rfl) ?_ | refine y_astore (r := none) E dX2_signalsTo_89 (Nat.le_of_ble_eq_true rfl) ?_
          first | refine y_ald_n E dX2_signalsTo_91 (by rfl) ?_ | refine y_aload_n E dX2_signalsTo_91 (by rfl) ?_
          first | refine y_ald E dX2_signalsTo_92 (by rfl) ?_ | refine y_aload E dX2_signalsTo_92 (by rfl) ?_
          refine y_getN E dX2_signalsTo_94 fl_X2_137_X6 (hiw) (by rfl) ?_
          refine y_iald E dX2_signalsTo_97 (hf2) (by omega) ?_
          refine y_if_ge (tgt := 135) E dX2_signalsTo_98 (by decide) (by omega) (fun h98 => ?_) (fun h98 => ?_)
          · refine y_goto (tgt := 69) E dX2_signalsTo_135 (by decide) ?_
            first
              | exact K5 (by omega)
              | (refine ihi (by omega) f ys G2 _ r hbq (fun q q0 q1 q2 => ?_) hc hnd haq2 hit2 hE2 (by omega)
                 by_cases e : q = i
                 · first
                   | (rw [e]; omega)
                   | (rw [e] at q2; exact absurd q2 h109)
                 · exact hfi q q0 (by omega) q2)
          · first | refine y_ald_n E dX2_signalsTo_101 (by rfl) ?_ | refine y_aload_n E dX2_signalsTo_101 (by rfl) ?_
            first | refine y_ald E dX2_signalsTo_102 (by rfl) ?_ | refine y_aload E dX2_signalsTo_102 (by rfl) ?_
            first | refine y_ald E dX2_signalsTo_104 (by rfl) ?_ | refine y_aload E dX2_signalsTo_104 (by rfl) ?_
            refine y_callV E dX2_signalsTo_106 lk_X2_187 (c_X2_canSignal hB2 hI2 hS hL (t := i) (u := x) (by omega) hxw) (by rfl) (hst2) rfl (by decide) (by omega) (by omega) rfl (Nat.le_of_ble_eq_true rfl) ?_ (fun _ _ _ h => h.elim)
            rintro _ _ ⟨rfl, hG9⟩
            rw [hG9]
            clear hG9
            refine y_ifd_eq (tgt := 135) E dX2_signalsTo_109 (by decide) (fun h109 => ?_) (fun h109 => ?_)
            · refine y_goto (tgt := 69) E dX2_signalsTo_135 (by decide) ?_
              first
                | exact K5 (by omega)
                | (refine ihi (by omega) f ys G2 _ r hbq (fun q q0 q1 q2 => ?_) hc hnd haq2 hit2 hE2 (by omega)
                   by_cases e : q = i
                   · first
                     | (rw [e]; omega)
                     | (rw [e] at q2; exact absurd q2 h109)
                   · exact hfi q q0 (by omega) q2)
            · first | refine y_ald_n E dX2_signalsTo_112 (by rfl) ?_ | refine y_aload_n E dX2_signalsTo_112 (by rfl) ?_
              first | refine y_ald E dX2_signalsTo_113 (by rfl) ?_ | refine y_aload E dX2_signalsTo_113 (by rfl) ?_
              refine y_getN E dX2_signalsTo_115 fl_X2_137_X6 (hiw) (by rfl) ?_
              first | refine y_ald_n E dX2_signalsTo_118 (by rfl) ?_ | refine y_aload_n E dX2_signalsTo_118 (by rfl) ?_
              first | refine y_ald E dX2_signalsTo_119 (by rfl) ?_ | refine y_aload E dX2_signalsTo_119 (by rfl) ?_
              refine y_getN E dX2_signalsTo_121 fl_X2_137_X6 (hxw2) (by rfl) ?_
              refine y_iald E dX2_signalsTo_124 (hf2) (by omega) ?_
              refine y_iconst E dX2_signalsTo_125 ?_
              refine y_iadd E dX2_signalsTo_126 ?_
              refine y_iast E dX2_signalsTo_127 (hf2) (by omega) ?_
              have hE3 := gE_s (v' := (some τ, aI 0 8 (upI f i (f x + 1)))) hE2
              have hk3 : gK (· = τ) G2 (gset G2 q2 (some τ, aI 0 8 (upI f i (f x + 1)))) := gK_w _ hf2 rfl
              have haq3 := haq2.kk hk3 (fun e => hτ e.symm)
              obtain ⟨fq3, haqc2⟩ := haq3.c
              have hE30 := gExt_t (gExt_n hq2) hE3
              have hiw3 := isST_t (hI.e hB hE30) (t := i) (by omega)
              unfold twX at hiw3
              first | refine y_ald_n E dX2_signalsTo_128 (by rfl) ?_ | refine y_aload_n E dX2_signalsTo_128 (by rfl) ?_
              first | refine y_ald E dX2_signalsTo_129 (by rfl) ?_ | refine y_aload E dX2_signalsTo_129 (by rfl) ?_
              refine y_callV E dX2_signalsTo_131 lk_X2_182 (c_J38_add haq3 (by rw [List.length_map]; omega) (okR_t hiw3)) (by rfl) (haqc2) rfl (by decide) (by omega) (by omega) rfl (Nat.le_of_ble_eq_true rfl) ?_ (fun _ _ _ h => h.elim)
              rintro _ G4 ⟨rfl, haq4, hk4⟩
              have hb5 : BQ w t (upI f i (f x + 1)) (ys ++ [i]) x r := by rw [hx2.2]; exact BQ_push hn.2 (by omega) hbq (by omega) (by omega) (by omega) h109
              have hf5 : ∀ q : Int, 0 ≤ q → q < ((i + 1 : Nat) : Int) → csP w q x → 0 ≤ upI f i (f x + 1) q := fun q q0 q1 q2 => by
                by_cases e : q = i
                · rw [e, upI_s]
                  omega
                · rw [upI_n _ e]
                  exact hfi q q0 (by omega) q2
              have hc5 : cN (upI f i (f x + 1)) = ((h + 1 : Nat) : Int) + ((ys ++ [i]).length : Nat) := by rw [cN_up (by omega) (by omega) (by omega), hc, List.length_append, List.length_singleton]; omega
              have hnd5 : (ys ++ [i]).Nodup := nd_app hnd (fun hy => by have := (hbq.2.2.1 i hy).2.1; omega)
              have hit5 := (hit2.kk (gK_w (P := (· = τ)) _ hf2 rfl) (fun e => hτ0 e.symm) (fun e => hτ1 e.symm)).kk hk4 (by simp [yT0]) (by simp)
              have K5 := fun h => ihi h (upI f i (f x + 1)) (ys ++ [i]) G4 (some (.ref (sTa S i))) r hb5 hf5 hc5 hnd5 (by rw [List.map_append]; exact haq4) hit5 (gE_K hE3 hk4 (hF _)) (by omega)
              refine y_pop E dX2_signalsTo_134 rfl ?_
              refine y_goto (tgt := 69) E dX2_signalsTo_135 (by decide) ?_
              first
                | exact K5 (by omega)
                | (refine ihi (by omega) f ys G2 _ r hbq (fun q q0 q1 q2 => ?_) hc hnd haq2 hit2 hE2 (by omega)
                   by_cases e : q = i
                   · first
                     | (rw [e]; omega)
                     | (rw [e] at q2; exact absurd q2 h109)
                   · exact hfi q q0 (by omega) q2)
      first | refine y_ald_n E dX2_signalsTo_44 (by rfl) ?_ | refine y_aload_n E dX2_signalsTo_44 (by rfl) ?_
      refine y_callV E dX2_signalsTo_45 lk_X2_183 (c_J38_isEmpty haq) (by rfl) (haqc) rfl (by decide) (by omega) (by omega) rfl (Nat.le_of_ble_eq_true rfl) ?_ (fun _ _ _ h => h.elim)
      rintro _ _ ⟨rfl, hG9⟩
      rw [hG9]
      clear hG9
      refine y_ifb_ne (tgt := 141) E dX2_signalsTo_48 (by decide) (fun h48 => ?_) (fun h48 => ?_)
      · simp at h48
      · first | refine y_ald_n E dX2_signalsTo_51 (by rfl) ?_ | refine y_aload_n E dX2_signalsTo_51 (by rfl) ?_
        refine y_callV E dX2_signalsTo_52 lk_X2_184 (c_J38_poll haq) (by rfl) (haqc) rfl (by decide) (by omega) (by omega) rfl (Nat.le_of_ble_eq_true rfl) ?_ (fun _ _ _ h => h.elim)
        rintro _ G2 ⟨rfl, haq2, hk2⟩
        have hE2 := gE_K hE hk2 (hF _)
        have hE0 := gExt_t (gExt_n hq2) hE2
        have hB2 := hB.e hE0
        have hI2 := hI.e hB hE0
        have hst2 := hI2.1
        have hal := hI2.2.1
        obtain ⟨fal, halc⟩ := hal.c
        have hxw2 := isST_t hI2 hxw
        unfold twX at hxw2
        refine y_ccast E dX2_signalsTo_55 q1008 (hxw2) rfl (Or.inl rfl) ?_
        first | refine y_ast E dX2_signalsTo_58 (Nat.le_of_ble_eq_true rfl) ?_ | refine y_astore E dX2_signalsTo_58 (Nat.le_of_ble_eq_true rfl) ?_ | refine y_astore (r := none) E dX2_signalsTo_58 (Nat.le_of_ble_eq_true rfl) ?_
        first | refine y_ald_n E dX2_signalsTo_60 (by rfl) ?_ | refine y_aload_n E dX2_signalsTo_60 (by rfl) ?_
        refine y_get E dX2_signalsTo_61 fl_X2_12_X2 (hst2) (by rfl) ?_
        refine y_callV E dX2_signalsTo_64 lk_X2_33 (c_it_new hB2 hal) (by rfl) (halc) rfl (by decide) (by omega) (by omega) rfl (Nat.le_of_ble_eq_true rfl) ?_ (fun _ _ _ h => h.elim)
        rintro _ G3 ⟨it, vv, rfl, h0, hit, hG9⟩
        first | refine y_ast E dX2_signalsTo_67 (Nat.le_of_ble_eq_true rfl) ?_ | refine y_astore E dX2_signalsTo_67 (Nat.le_of_ble_eq_true rfl) ?_ | refine y_astore (r := none) E dX2_signalsTo_67 (Nat.le_of_ble_eq_true rfl) ?_
        have hE3 : gExt G2 G3 := by rw [hG9]; exact gExt_n h0
        exact y_widen (by omega) (by omega) (inner it (gE_0 hE0 h0) (fun e => by rw [e, hE2 _ _ (gset_s _ _ _)] at h0; cases h0) 0 f xs G3 _ (f x) hbp (fun q q0 q1 => by omega) (by omega) hnd2 (by rw [hG9]; exact haq2.kk (gK_n (P := fun _ => False) _ h0) id) hit (gExt_t hE2 hE3) (by omega))
  have P23 : ∀ (q2 : Nat) (f : Int → Int) (l3 : Option Value), G q2 = none → (∀ j, 0 ≤ j → j < 8 → f j = -1) → Y Γ Z 1 8 Q (gset G q2 (some τ, aI 0 8 f)) 23 [some (.ref a), some (.ref (sTa S t)), some (.ref q2), l3, none, none, none] [] := by
    intro q2 f l3 hq2 hf
    refine y_new E (0, 98) dX2_signalsTo_23 nw_X2_179 (by omega) (by omega) (fun q23 hq23 => ?_)
    refine y_dup E dX2_signalsTo_26 rfl ?_
    refine y_callI E dX2_signalsTo_27 lk_X2_181 (c_J38_init (gset_s _ _ _)) (by rfl) (by decide) (by omega) (by omega) rfl (Nat.le_of_ble_eq_true rfl) ?_ (fun _ _ _ h => h.elim)
    rintro _ G2 ⟨rfl, haq, hk2⟩
    have hE2 := gE_K (gExt_n hq23) hk2 (hF _)
    have hE0 := gExt_t (gExt_n hq2) hE2
    have hf2 := hE2 _ _ (gset_s G q2 (some τ, aI 0 8 f))
    have htw2 := hE0 _ _ htw
    first | refine y_ast_n (j := 3) E dX2_signalsTo_30 rfl (Nat.le_of_ble_eq_true rfl) ?_ | refine y_astore_n (j := 3) E dX2_signalsTo_30 rfl (Nat.le_of_ble_eq_true rfl) ?_ | refine y_astore_n (j := 3) (r := none) E dX2_signalsTo_30 rfl (Nat.le_of_ble_eq_true rfl) ?_
    first | refine y_ald_n E dX2_signalsTo_31 (by rfl) ?_ | refine y_aload_n E dX2_signalsTo_31 (by rfl) ?_
    first | refine y_ald_n E dX2_signalsTo_32 (by rfl) ?_ | refine y_aload_n E dX2_signalsTo_32 (by rfl) ?_
    refine y_getN E dX2_signalsTo_33 fl_X2_137_X6 (htw2) (by rfl) ?_
    refine y_iconst E dX2_signalsTo_36 ?_
    refine y_iast E dX2_signalsTo_37 (hf2) (by omega) ?_
    have hE3 := gE_s (v' := (some τ, aI 0 8 (upI f t 0))) hE2
    have hk3 : gK (· = τ) G2 (gset G2 q2 (some τ, aI 0 8 (upI f t 0))) := gK_w _ hf2 rfl
    have haq2 := haq.kk hk3 (fun e => hτ e.symm)
    obtain ⟨fq3, haqc2⟩ := haq2.c
    have hE30 := gExt_t (gExt_n hq2) hE3
    have htw3 := hE30 _ _ htw
    first | refine y_ald_n E dX2_signalsTo_38 (by rfl) ?_ | refine y_aload_n E dX2_signalsTo_38 (by rfl) ?_
    first | refine y_ald_n E dX2_signalsTo_39 (by rfl) ?_ | refine y_aload_n E dX2_signalsTo_39 (by rfl) ?_
    refine y_callV E dX2_signalsTo_40 lk_X2_182 (c_J38_add haq2 (by simp) (okR_t htw3)) (by rfl) (haqc2) rfl (by decide) (by omega) (by omega) rfl (Nat.le_of_ble_eq_true rfl) ?_ (fun _ _ _ h => h.elim)
    rintro _ G4 ⟨rfl, haq4, hk4⟩
    refine y_pop E dX2_signalsTo_43 rfl ?_
    refine y_widen (by omega) (by omega) (main q2 q23 hq2 0 [t] (upI f t 0) (-1) 0 G4 _ _ _ (BQ_0 ht (fun j j0 j1 => ?_) hn.2) (fun q => by omega) ?_ (by simp) haq4 (gE_K hE3 hk4 (hF _)))
    · by_cases e : j = t
      · rw [e, upI_s, if_pos rfl]
      · rw [upI_n _ e, if_neg e]
        exact hf j j0 j1
    · rw [cN_up (by omega) (by rw [hf t (by omega) (by omega)]; omega) (by omega), cN_0 (fun j j0 j1 => by rw [hf j j0 j1]; omega)]
      rfl
  have fill : ∀ (q2 : Nat), G q2 = none → ∀ i : Int, ∀ (f : Int → Int), 0 ≤ i → i ≤ 8 → (∀ j, 0 ≤ j → j < i → f j = -1) → Y Γ Z 1 8 Q (gset G q2 (some τ, aI 0 8 f)) 7 [some (.ref a), some (.ref (sTa S t)), some (.ref q2), some (.int (iI i)), none, none, none] [] := by
    intro q2 hq2
    refine loopDown 8 ?_
    intro i ih f h0 h1 hf
    have hfa := gset_s G q2 (some τ, aI 0 8 f)
    refine y_iload_n E dX2_signalsTo_7 (by rfl) ?_
    refine y_bipush E dX2_signalsTo_8 (by decide) ?_
    refine y_icmp_ge (tgt := 23) E dX2_signalsTo_10 (by decide) (by omega) (by omega) (fun h10 => ?_) (fun h10 => ?_)
    · exact P23 q2 f _ hq2 (fun j j0 j1 => hf j j0 (by omega))
    · first | refine y_ald_n E dX2_signalsTo_13 (by rfl) ?_ | refine y_aload_n E dX2_signalsTo_13 (by rfl) ?_
      refine y_iload_n E dX2_signalsTo_14 (by rfl) ?_
      refine y_iconst E dX2_signalsTo_15 ?_
      refine y_iast E dX2_signalsTo_16 (hfa) (by omega) ?_
      refine y_heap (gset_gset _ _ _ _) ?_
      refine y_iinc E dX2_signalsTo_17 (by rfl) ?_
      refine y_goto (tgt := 7) E dX2_signalsTo_20 (by decide) ?_
      refine ih (by omega) (upI f i (-1)) (by omega) (by omega) (fun j j0 j1 => ?_)
      by_cases e : j = i
      · rw [e, upI_s]
      · rw [upI_n _ e]
        exact hf j j0 (by omega)
  refine y_bipush E dX2_signalsTo_0 (by decide) ?_
  refine y_newI E τ q258 dX2_signalsTo_2 (by omega) (by omega) (by omega) (fun q2 hq2 => ?_)
  first | refine y_ast_n (j := 2) E dX2_signalsTo_4 rfl (Nat.le_of_ble_eq_true rfl) ?_ | refine y_astore_n (j := 2) E dX2_signalsTo_4 rfl (Nat.le_of_ble_eq_true rfl) ?_ | refine y_astore_n (j := 2) (r := none) E dX2_signalsTo_4 rfl (Nat.le_of_ble_eq_true rfl) ?_
  refine y_iconst E dX2_signalsTo_5 ?_
  refine y_istore_n (j := 3) E dX2_signalsTo_6 rfl (Nat.le_of_ble_eq_true rfl) ?_
  exact fill q2 hq2 0 (fun _ => 0) (by omega) (by omega) (fun j j0 j1 => by omega)
end Sg
