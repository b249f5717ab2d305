/-! ===== going through a linked list; what refuses ===== -/
section Li
variable {Γ : yG} {G : yH}
/-- an iterator of a linked list, at the place k -/
def isLI (G : yH) (it a : Nat) (τ : Nat × Nat) (xs : List (Option Nat)) (k : Nat) : Prop := ∃ (mc : Int32) (ns : List Nat) (lr : Option Nat), G it = some (some yT0, litE a lr ns[k]? k mc) ∧ isLLn G τ a mc xs ns
theorem isLI.kk {P : Nat × Nat → Prop} {G G' : yH} {it a : Nat} {τ : Nat × Nat} {xs : List (Option Nat)} {k : Nat} (h : isLI G it a τ xs k) (hk : gK P G G') (h0 : ¬ P yT0) (hP : ¬ P τ) : isLI G' it a τ xs k := by
  obtain ⟨mc, ns, lr, h1, h2⟩ := h
  exact ⟨mc, ns, lr, hk.at h1 h0, h2.kk hk hP⟩
theorem isLI.c {it a : Nat} {τ : Nat × Nat} {xs : List (Option Nat)} {k : Nat} (h : isLI G it a τ xs k) : ∃ fs, G it = some (some yT0, .inr (12, fs)) := by
  obtain ⟨mc, ns, lr, h1, h2⟩ := h
  exact ⟨_, h1⟩
theorem c_li_new {a : Nat} {τ : Nat × Nat} {xs : List (Option Nat)} (h : isLL G τ a xs) (hl : xs.length ≤ 60000) : Ct_J3_iterator Γ 5 1 5 [.ref a] G (fun r G' => ∃ it vv, r = some (.ref it) ∧ G it = none ∧ isLI G' it a τ xs 0 ∧ G' = gset G it (some yT0, vv)) noX := by
  obtain ⟨mc, ns, h1⟩ := h
  refine Ct_mono (c_J3_iterator (τ := yT0) h1 hl) ?_ (fun _ _ q => q)
  rintro r G' ⟨it, g1, rfl, rfl⟩
  exact ⟨it, _, rfl, g1, ⟨mc, ns, none, by rw [gset_s, List.head?_eq_getElem?]; rfl, h1.kk (gK_n (P := fun _ => False) _ g1) id⟩, rfl⟩
theorem c_li_has {it a : Nat} {τ : Nat × Nat} {xs : List (Option Nat)} {k : Nat} (h : isLI G it a τ xs k) (hk : k ≤ xs.length) (hl : xs.length ≤ 60000) : Ct_J35_hasNext Γ 1 0 0 [.ref it] G (fun r G' => r = some (.int (iI (b2i (dB (k < xs.length))))) ∧ G' = G) noX := by
  obtain ⟨mc, ns, lr, h1, h2⟩ := h
  refine Ct_mono (c_J35_hasNext h1 h2.1 (by omega) (by omega)) ?_ (fun _ _ q => q)
  rintro r G' ⟨rfl, rfl⟩
  refine ⟨?_, rfl⟩
  by_cases e : k < xs.length
  · rw [dB_t e, decide_eq_true (by omega)]
  · rw [dB_f e, decide_eq_false (by omega)]
theorem c_li_next {it a : Nat} {τ : Nat × Nat} {xs : List (Option Nat)} {k : Nat} {x : Option Nat} (h : isLI G it a τ xs k) (hτ : τ ≠ yT0) (hx : xs[k]? = some x) (hl : xs.length ≤ 60000) : Ct_J35_next Γ 2 0 0 [.ref it] G (fun r G' => r = some (va_rf x) ∧ isLI G' it a τ xs (k + 1) ∧ ∃ v, G' = gset G it (some yT0, v)) noX := by
  obtain ⟨mc, ns, lr, h1, h2⟩ := h
  have hk : k < xs.length := (List.getElem?_eq_some_iff.mp hx).1
  have hns : k < ns.length := by rw [h2.2.1]; exact hk
  refine Ct_mono (c_J35_next (nd := ns[k]) h1 h2 (List.getElem?_eq_getElem hns) hx hl) ?_ (fun _ _ q => q)
  rintro r G' ⟨rfl, rfl⟩
  exact ⟨rfl, ⟨mc, ns, _, gset_s _ _ _, h2.kk (gK_w (P := (· = yT0)) _ h1 rfl) hτ⟩, _, rfl⟩
end Li
section X2d
variable {Γ : yG} {G : yH} {st a : Nat} {S : SA} {w : Int → Int}
set_option maxHeartbeats 4000000
theorem c_X2_whyNotBroken (τ : Nat × Nat) (hI : isST Γ G st a S w) (hS : SH w) {t : Nat} (ht : (t : Int) < w 10) : Ct_X2_whyNotBroken Γ 2 1 2 [.ref a, .ref (sTa S t)] (G) (fun v G' => isRF G G' τ v (whyBroken w t)) (noX) := by
  refine y_start (lv0 := [some (.ref a), some (.ref (sTa S t))]) (nm := "whyNotBroken") (own := RX2) (by decide +kernel) rfl rfl (by exact Nat.le_of_ble_eq_true rfl) (by rfl) ?_
  intro Z Q E F
  have hn := hS.nt
  have htw := isST_t hI ht
  unfold twX twE at htw
  have hSt := hS.t (t := (t : Int)) (by omega) (by omega)
  first | refine y_ald_n E dX2_whyNotBroken_0 (by rfl) ?_ | refine y_aload_n E dX2_whyNotBroken_0 (by rfl) ?_
  refine y_getN E dX2_whyNotBroken_1 fl_X2_161_X6 (htw) (by rfl) ?_
  refine y_if_eq (tgt := 22) E dX2_whyNotBroken_4 (by decide) (by omega) (fun h4 => ?_) (fun h4 => ?_)
  · refine y_null E dX2_whyNotBroken_22 ?_
    refine y_areturn (r := none) E F rfl (Or.inl ⟨_, rfl⟩) dX2_whyNotBroken_23 (by omega) (by omega) (by first
        | (unfold whyBroken; rw [if_pos (by omega)]; exact ⟨_, rfl, hq7, hG9⟩)
        | (unfold whyBroken; rw [if_neg (by omega)]; exact ⟨rfl, rfl⟩))
  · refine y_new E τ dX2_whyNotBroken_7 nw_X2_164 (by omega) (by omega) (fun q7 hq7 => ?_)
    have htw := gs_n (v := (some τ, .inr (0, [.int (iI 0), .int (iI 0)]))) (g_nn htw hq7) htw
    refine y_dup E dX2_whyNotBroken_10 rfl ?_
    refine y_iconst E dX2_whyNotBroken_11 ?_
    first | refine y_ald_n E dX2_whyNotBroken_12 (by rfl) ?_ | refine y_aload_n E dX2_whyNotBroken_12 (by rfl) ?_
    refine y_getN E dX2_whyNotBroken_13 fl_X2_137_X6 (htw) (by rfl) ?_
    refine y_callI E dX2_whyNotBroken_16 lk_X2_166 (c_X4_init (τ := τ) (r := 2) (d := t) (gset_s _ _ _)) (by rfl) (by decide) (by omega) (by omega) rfl (Nat.le_of_ble_eq_true rfl) ?_ (fun _ _ _ h => h.elim)
    rintro _ G2 ⟨rfl, hG9⟩
    rw [gset_gset] at hG9
    refine y_goto (tgt := 23) E dX2_whyNotBroken_19 (by decide) ?_
    refine y_areturn (r := some _) E F rfl (Or.inl ⟨_, rfl⟩) dX2_whyNotBroken_23 (by omega) (by omega) (by first
        | (unfold whyBroken; rw [if_pos (by omega)]; exact ⟨_, rfl, hq7, hG9⟩)
        | (unfold whyBroken; rw [if_neg (by omega)]; exact ⟨rfl, rfl⟩))
theorem c_X2_whyNotMended (τ : Nat × Nat) (hI : isST Γ G st a S w) (hS : SH w) {t : Nat} (ht : (t : Int) < w 10) : Ct_X2_whyNotMended Γ 2 1 2 [.ref a, .ref (sTa S t)] (G) (fun v G' => isRF G G' τ v (whyMended w t)) (noX) := by
  refine y_start (lv0 := [some (.ref a), some (.ref (sTa S t))]) (nm := "whyNotMended") (own := RX2) (by decide +kernel) rfl rfl (by exact Nat.le_of_ble_eq_true rfl) (by rfl) ?_
  intro Z Q E F
  have hn := hS.nt
  have htw := isST_t hI ht
  unfold twX twE at htw
  have hSt := hS.t (t := (t : Int)) (by omega) (by omega)
  first | refine y_ald_n E dX2_whyNotMended_0 (by rfl) ?_ | refine y_aload_n E dX2_whyNotMended_0 (by rfl) ?_
  refine y_getN E dX2_whyNotMended_1 fl_X2_161_X6 (htw) (by rfl) ?_
  refine y_if_eq (tgt := 11) E dX2_whyNotMended_4 (by decide) (by omega) (fun h4 => ?_) (fun h4 => ?_)
  · refine y_new E τ dX2_whyNotMended_11 nw_X2_164 (by omega) (by omega) (fun q11 hq11 => ?_)
    have htw := gs_n (v := (some τ, .inr (0, [.int (iI 0), .int (iI 0)]))) (g_nn htw hq11) htw
    refine y_dup E dX2_whyNotMended_14 rfl ?_
    refine y_bipush E dX2_whyNotMended_15 (by decide) ?_
    first | refine y_ald_n E dX2_whyNotMended_17 (by rfl) ?_ | refine y_aload_n E dX2_whyNotMended_17 (by rfl) ?_
    refine y_getN E dX2_whyNotMended_18 fl_X2_137_X6 (htw) (by rfl) ?_
    refine y_callI E dX2_whyNotMended_21 lk_X2_166 (c_X4_init (τ := τ) (r := 7) (d := t) (gset_s _ _ _)) (by rfl) (by decide) (by omega) (by omega) rfl (Nat.le_of_ble_eq_true rfl) ?_ (fun _ _ _ h => h.elim)
    rintro _ G2 ⟨rfl, hG9⟩
    rw [gset_gset] at hG9
    refine y_areturn (r := some _) E F rfl (Or.inl ⟨_, rfl⟩) dX2_whyNotMended_24 (by omega) (by omega) (by first
        | (unfold whyMended; rw [if_pos (by omega)]; exact ⟨_, rfl, hq11, hG9⟩)
        | (unfold whyMended; rw [if_neg (by omega)]; exact ⟨rfl, rfl⟩))
  · refine y_null E dX2_whyNotMended_7 ?_
    refine y_goto (tgt := 24) E dX2_whyNotMended_8 (by decide) ?_
    refine y_areturn (r := none) E F rfl (Or.inl ⟨_, rfl⟩) dX2_whyNotMended_24 (by omega) (by omega) (by first
        | (unfold whyMended; rw [if_pos (by omega)]; exact ⟨_, rfl, hq11, hG9⟩)
        | (unfold whyMended; rw [if_neg (by omega)]; exact ⟨rfl, rfl⟩))
theorem c_X2_whyNotFitted (τ : Nat × Nat) (hI : isST Γ G st a S w) (hS : SH w) : Ct_X2_whyNotFitted Γ 3 1 2 [.ref a] (G) (fun v G' => isRF G G' τ v (whyFitted w)) (noX) := by
  refine y_start (lv0 := [some (.ref a)]) (nm := "whyNotFitted") (own := RX2) (by decide +kernel) rfl rfl (by exact Nat.le_of_ble_eq_true rfl) (by rfl) ?_
  intro Z Q E F
  have hn := hS.ns
  have hst := hI.1
  have hll := hI.2.2.2.1
  obtain ⟨fs, hlc⟩ := hll.c
  have hlen : ((soL S w).map some).length = (w 12).toNat := by simp [soL]
  have hem : ((soL S w).map some).isEmpty = true ↔ w 12 = 0 := by
    rw [List.isEmpty_iff, ← List.length_eq_zero_iff, hlen]
    omega
  first | refine y_ald_n E dX2_whyNotFitted_0 (by rfl) ?_ | refine y_aload_n E dX2_whyNotFitted_0 (by rfl) ?_
  refine y_get E dX2_whyNotFitted_1 fl_X2_24_X2 (hst) (by rfl) ?_
  refine y_callU E dX2_whyNotFitted_4 lk_X2_169_J4 (c_LL_isEmpty hll (by omega)) (by rfl) (hlc) rfl (by decide) (by omega) (by omega) rfl (Nat.le_of_ble_eq_true rfl) ?_ (fun _ _ _ h => h.elim)
  rintro _ _ ⟨rfl, hG9⟩
  rw [hG9]
  clear hG9
  refine y_ifb_eq (tgt := 23) E dX2_whyNotFitted_7 (by decide) (fun h7 => ?_) (fun h7 => ?_)
  · refine y_null E dX2_whyNotFitted_23 ?_
    refine y_areturn (r := none) E F rfl (Or.inl ⟨_, rfl⟩) dX2_whyNotFitted_24 (by omega) (by omega) (by first
        | (unfold whyFitted; rw [if_pos (hem.mp h7)]; exact ⟨_, rfl, hq10, hG9⟩)
        | (unfold whyFitted; rw [if_neg (fun e => by rw [hem.mpr e] at h7; cases h7)]; exact ⟨rfl, rfl⟩))
  · refine y_new E τ dX2_whyNotFitted_10 nw_X2_164 (by omega) (by omega) (fun q10 hq10 => ?_)
    refine y_dup E dX2_whyNotFitted_13 rfl ?_
    refine y_bipush E dX2_whyNotFitted_14 (by decide) ?_
    refine y_iconst E dX2_whyNotFitted_16 ?_
    refine y_callI E dX2_whyNotFitted_17 lk_X2_166 (c_X4_init (τ := τ) (r := 8) (d := 0) (gset_s _ _ _)) (by rfl) (by decide) (by omega) (by omega) rfl (Nat.le_of_ble_eq_true rfl) ?_ (fun _ _ _ h => h.elim)
    rintro _ G2 ⟨rfl, hG9⟩
    rw [gset_gset] at hG9
    refine y_goto (tgt := 24) E dX2_whyNotFitted_20 (by decide) ?_
    refine y_areturn (r := some _) E F rfl (Or.inl ⟨_, rfl⟩) dX2_whyNotFitted_24 (by omega) (by omega) (by first
        | (unfold whyFitted; rw [if_pos (hem.mp h7)]; exact ⟨_, rfl, hq10, hG9⟩)
        | (unfold whyFitted; rw [if_neg (fun e => by rw [hem.mpr e] at h7; cases h7)]; exact ⟨rfl, rfl⟩))
theorem c_X2_whyNotLit (τ : Nat × Nat) (hB : gB Γ G) (hI : isST Γ G st a S w) (hS : SH w) (hL : LSW w) (hU : UT w) (hO : gOK G) {t : Nat} (ht : (t : Int) < w 10) : Ct_X2_whyNotLit Γ 7 34 70 [.ref a, .ref (sTa S t)] (G) (fun v G' => isRF G G' τ v (whyLit w t)) (noX) := by
  refine y_start (lv0 := [some (.ref a), some (.ref (sTa S t)), none, none]) (nm := "whyNotLit") (own := RX2) (by decide +kernel) rfl rfl (by exact Nat.le_of_ble_eq_true rfl) (by rfl) ?_
  intro Z Q E F
  have hst := hI.1
  have hn := hS.nt
  have hal := hI.2.1
  obtain ⟨fal, hac⟩ := hal.c
  have hlen := twL_len S w
  have htw := isST_t hI ht
  rw [twX_F] at htw
  have hSt := hS.t (t := (t : Int)) (by omega) (by omega)
  have hpw := hS.pow (t := (t : Int)) (by omega) (by omega)
  have loop : (whyLit w t = if fstI (fun k => tw w k 4 = 1 ∧ mistP w k t) (w 10) < 0 then none else some (6, fstI (fun k => tw w k 4 = 1 ∧ mistP w k t) (w 10))) → ∀ it, G it = none → ∀ i : Nat, ∀ (G1 : yH) (l3 : Option Value), gExt G G1 → gOK G1 → isIT Γ G1 it (sTl S) (st, 1) (twL S w) i → (i : Int) ≤ w 10 → (∀ j : Int, 0 ≤ j → j < i → ¬ (fun k => tw w k 4 = 1 ∧ mistP w k t) j) → Y Γ Z (1 + 4 * i) (4 + 8 * i) Q G1 82 [some (.ref a), some (.ref (sTa S t)), some (.ref it), l3] [] := by
    intro hw it h0
    refine loopDownN (w 10).toNat ?_
    intro i ih G1 l3 hE hO1 hit hi hj
    obtain ⟨fs, hitc⟩ := hit.c
    have hSi := fun h : (i : Int) < 8 => hS.t (t := (i : Int)) (by omega) h
    first | refine y_ald_n E dX2_whyNotLit_82 (by rfl) ?_ | refine y_aload_n E dX2_whyNotLit_82 (by rfl) ?_
    refine y_callF E dX2_whyNotLit_83 lk_X2_37_J24 (c_it_has hit (by omega)) (by rfl) (hitc) rfl (by decide) (by omega) (by omega) rfl (Nat.le_of_ble_eq_true rfl) ?_ (fun _ _ _ h => h.elim)
    rintro _ _ ⟨rfl, hG9⟩
    rw [hG9]
    clear hG9
    refine y_ifd_eq (tgt := 134) E dX2_whyNotLit_88 (by decide) (fun h88 => ?_) (fun h88 => ?_)
    · refine y_forget hE ?_
      refine y_null E dX2_whyNotLit_134 ?_
      refine y_areturn (r := none) E F rfl (Or.inl ⟨_, rfl⟩) dX2_whyNotLit_135 (by omega) (by omega) (by rw [hw, fst_miss (by omega) (fun j a b => hj j a (by omega)), if_pos (by omega)]; exact ⟨rfl, rfl⟩)
    · first | refine y_ald_n E dX2_whyNotLit_91 (by rfl) ?_ | refine y_aload_n E dX2_whyNotLit_91 (by rfl) ?_
      refine y_callF E dX2_whyNotLit_92 lk_X2_43_J24 (c_it_next hit (twL_at (by omega))) (by rfl) (hitc) rfl (by decide) (by omega) (by omega) rfl (Nat.le_of_ble_eq_true rfl) ?_ (fun _ _ _ h => h.elim)
      rintro _ _ ⟨rfl, hit2, vv, hG9⟩
      rw [hG9] at hit2 ⊢
      clear hG9
      have hE2 := gExt_w hE (some yT0, vv) h0
      have hO2 := gOK_it hO1 (a := it) (e := vv)
      have hB2 := hB.e hE2
      have hI2 := hI.e hB hE2
      have hst2 := hI2.1
      have hiw := isST_t hI2 (t := i) (by omega)
      unfold twX twE at hiw
      have hiw0 := isST_t hI (t := i) (by omega)
      unfold twX twE at hiw0
      have hSi := hSi (by omega)
      refine y_ccast E dX2_whyNotLit_97 q1008 (hiw) rfl (Or.inl rfl) ?_
      first | refine y_ast_n (j := 3) E dX2_whyNotLit_100 rfl (Nat.le_of_ble_eq_true rfl) ?_ | refine y_astore_n (j := 3) E dX2_whyNotLit_100 rfl (Nat.le_of_ble_eq_true rfl) ?_ | refine y_astore_n (j := 3) (r := none) E dX2_whyNotLit_100 rfl (Nat.le_of_ble_eq_true rfl) ?_
      first | refine y_ald_n E dX2_whyNotLit_101 (by rfl) ?_ | refine y_aload_n E dX2_whyNotLit_101 (by rfl) ?_
      refine y_getN E dX2_whyNotLit_102 fl_X2_133_X6 (hiw) (by rfl) ?_
      refine y_if_eq (tgt := 131) E dX2_whyNotLit_105 (by decide) (by omega) (fun h105 => ?_) (fun h105 => ?_)
      · refine y_goto (tgt := 82) E dX2_whyNotLit_131 (by decide) ?_
        refine y_widen (by omega) (by omega) (ih (by omega) _ _ hE2 hO2 hit2 (by omega) (low_s hj (fun q => ?_)))
        first
          | exact h114 ((mist_sym (hU t (by omega) ht)).mpr q.2)
          | (have q1 := q.1; omega)
      · first | refine y_ald_n E dX2_whyNotLit_108 (by rfl) ?_ | refine y_aload_n E dX2_whyNotLit_108 (by rfl) ?_
        first | refine y_ald_n E dX2_whyNotLit_109 (by rfl) ?_ | refine y_aload_n E dX2_whyNotLit_109 (by rfl) ?_
        first | refine y_ald_n E dX2_whyNotLit_110 (by rfl) ?_ | refine y_aload_n E dX2_whyNotLit_110 (by rfl) ?_
        refine y_callV E dX2_whyNotLit_111 lk_X2_138 (c_X2_areMistaken hB2 hI2 hS hL hU hO2 ht (u := i) (by omega)) (by rfl) (hst2) rfl (by decide) (by omega) (by omega) rfl (Nat.le_of_ble_eq_true rfl) ?_ (fun _ _ _ h => h.elim)
        rintro _ _ ⟨rfl, hG9⟩
        rw [hG9]
        clear hG9
        refine y_ifd_eq (tgt := 131) E dX2_whyNotLit_114 (by decide) (fun h114 => ?_) (fun h114 => ?_)
        · refine y_goto (tgt := 82) E dX2_whyNotLit_131 (by decide) ?_
          refine y_widen (by omega) (by omega) (ih (by omega) _ _ hE2 hO2 hit2 (by omega) (low_s hj (fun q => ?_)))
          first
            | exact h114 ((mist_sym (hU t (by omega) ht)).mpr q.2)
            | (have q1 := q.1; omega)
        · refine y_forget hE2 ?_
          refine y_new E τ dX2_whyNotLit_117 nw_X2_164 (by omega) (by omega) (fun q117 hq117 => ?_)
          have hiw := gs_n (v := (some τ, .inr (0, [.int (iI 0), .int (iI 0)]))) (g_nn hiw0 hq117) hiw0
          refine y_dup E dX2_whyNotLit_120 rfl ?_
          refine y_bipush E dX2_whyNotLit_121 (by decide) ?_
          first | refine y_ald_n E dX2_whyNotLit_123 (by rfl) ?_ | refine y_aload_n E dX2_whyNotLit_123 (by rfl) ?_
          refine y_getN E dX2_whyNotLit_124 fl_X2_137_X6 (hiw) (by rfl) ?_
          refine y_callI E dX2_whyNotLit_127 lk_X2_166 (c_X4_init (τ := τ) (r := 6) (d := i) (gset_s _ _ _)) (by rfl) (by decide) (by omega) (by omega) rfl (Nat.le_of_ble_eq_true rfl) ?_ (fun _ _ _ h => h.elim)
          rintro _ G3 ⟨rfl, hG9⟩
          rw [gset_gset] at hG9
          refine y_areturn (r := some _) E F rfl (Or.inl ⟨_, rfl⟩) dX2_whyNotLit_130 (by omega) (by omega) (by rw [hw, fst_hit (k := (i : Int)) (by omega) (by omega) ⟨by omega, (mist_sym (hU t (by omega) ht)).mp h114⟩ hj, if_neg (by omega)]; exact ⟨_, rfl, hq117, hG9⟩)
  have W47 : tw w t 5 = 0 → tw w t 4 = 0 → powS w t < 5 → Y Γ Z 0 0 Q G 47 [some (.ref a), some (.ref (sTa S t)), none, none] [] := by
    intro h5 h4 hp5
    have hwl : whyLit w t = some (5, powS w t) := by unfold whyLit; rw [if_neg (by omega), if_neg (by omega), if_pos hp5]
    by_cases h3 : tw w t 3 < 0
    · have hpe : powS w t = -1 := by unfold powS; rw [if_pos h3]
      unfold twF at htw
      rw [lnO_n h3] at htw
      refine y_new E τ dX2_whyNotLit_47 nw_X2_164 (by omega) (by omega) (fun q47 hq47 => ?_)
      have htw := gs_n (v := (some τ, .inr (0, [.int (iI 0), .int (iI 0)]))) (g_nn htw hq47) htw
      refine y_dup E dX2_whyNotLit_50 rfl ?_
      refine y_iconst E dX2_whyNotLit_51 ?_
      first | refine y_ald_n E dX2_whyNotLit_52 (by rfl) ?_ | refine y_aload_n E dX2_whyNotLit_52 (by rfl) ?_
      refine y_getN E dX2_whyNotLit_53 fl_X2_62_X6 (htw) (by rfl) ?_
      refine y_ifnonnull_n E dX2_whyNotLit_56 ?_
      refine y_iconst E dX2_whyNotLit_59 ?_
      refine y_goto (tgt := 70) E dX2_whyNotLit_60 (by decide) ?_
      refine y_callI E dX2_whyNotLit_70 lk_X2_166 (c_X4_init (τ := τ) (r := 5) (d := -1) (gset_s _ _ _)) (by rfl) (by decide) (by omega) (by omega) rfl (Nat.le_of_ble_eq_true rfl) ?_ (fun _ _ _ h => h.elim)
      rintro _ G3 ⟨rfl, hG9⟩
      rw [gset_gset] at hG9
      refine y_areturn (r := some _) E F rfl (Or.inl ⟨_, rfl⟩) dX2_whyNotLit_73 (by omega) (by omega) (by rw [hwl, hpe]; exact ⟨_, rfl, hq47, hG9⟩)
    · have hln := isST_tl hI hL ht (by omega)
      unfold twF at htw
      rw [lnO_s (by omega)] at htw
      refine y_new E τ dX2_whyNotLit_47 nw_X2_164 (by omega) (by omega) (fun q47 hq47 => ?_)
      have htw := gs_n (v := (some τ, .inr (0, [.int (iI 0), .int (iI 0)]))) (g_nn htw hq47) htw
      have hln := gs_n (v := (some τ, .inr (0, [.int (iI 0), .int (iI 0)]))) (g_nn hln hq47) hln
      refine y_dup E dX2_whyNotLit_50 rfl ?_
      refine y_iconst E dX2_whyNotLit_51 ?_
      first | refine y_ald_n E dX2_whyNotLit_52 (by rfl) ?_ | refine y_aload_n E dX2_whyNotLit_52 (by rfl) ?_
      refine y_getN E dX2_whyNotLit_53 fl_X2_62_X6 (htw) (by rfl) ?_
      refine y_ifnonnull_r (tgt := 63) E dX2_whyNotLit_56 (by decide) ?_
      first | refine y_ald_n E dX2_whyNotLit_63 (by rfl) ?_ | refine y_aload_n E dX2_whyNotLit_63 (by rfl) ?_
      refine y_getN E dX2_whyNotLit_64 fl_X2_62_X6 (htw) (by rfl) ?_
      refine y_getN E dX2_whyNotLit_67 fl_X2_106_X5 (hln) (by rfl) ?_
      refine y_callI E dX2_whyNotLit_70 lk_X2_166 (c_X4_init (τ := τ) (r := 5) (d := powS w t) (gset_s _ _ _)) (by rfl) (by decide) (by omega) (by omega) rfl (Nat.le_of_ble_eq_true rfl) ?_ (fun _ _ _ h => h.elim)
      rintro _ G3 ⟨rfl, hG9⟩
      rw [gset_gset] at hG9
      refine y_areturn (r := some _) E F rfl (Or.inl ⟨_, rfl⟩) dX2_whyNotLit_73 (by omega) (by omega) (by rw [hwl]; exact ⟨_, rfl, hq47, hG9⟩)
  have W74 : tw w t 5 = 0 → tw w t 4 = 0 → ¬ powS w t < 5 → Y Γ Z 0 0 Q G 74 [some (.ref a), some (.ref (sTa S t)), none, none] [] := by
    intro h5 h4 hp5
    first | refine y_ald_n E dX2_whyNotLit_74 (by rfl) ?_ | refine y_aload_n E dX2_whyNotLit_74 (by rfl) ?_
    refine y_get E dX2_whyNotLit_75 fl_X2_12_X2 (hst) (by rfl) ?_
    refine y_callV E dX2_whyNotLit_78 lk_X2_33 (c_it_new hB hal) (by rfl) (hac) rfl (by decide) (by omega) (by omega) rfl (Nat.le_of_ble_eq_true rfl) ?_ (fun _ _ _ h => h.elim)
    rintro _ G1 ⟨it, vv, rfl, h0, hit, hG9⟩
    first | refine y_ast_n (j := 2) E dX2_whyNotLit_81 rfl (Nat.le_of_ble_eq_true rfl) ?_ | refine y_astore_n (j := 2) E dX2_whyNotLit_81 rfl (Nat.le_of_ble_eq_true rfl) ?_ | refine y_astore_n (j := 2) (r := none) E dX2_whyNotLit_81 rfl (Nat.le_of_ble_eq_true rfl) ?_
    exact y_widen (by omega) (by omega) (loop (by unfold whyLit; rw [if_neg (by omega), if_neg (by omega), if_neg hp5]) it h0 0 G1 _ (by rw [hG9]; exact gExt_n h0) (by rw [hG9]; exact gOK_it hO) hit (by omega) (fun j a b => by omega))
  first | refine y_ald_n E dX2_whyNotLit_0 (by rfl) ?_ | refine y_aload_n E dX2_whyNotLit_0 (by rfl) ?_
  refine y_getN E dX2_whyNotLit_1 fl_X2_161_X6 (htw) (by rfl) ?_
  refine y_if_eq (tgt := 20) E dX2_whyNotLit_4 (by decide) (by omega) (fun h4 => ?_) (fun h4 => ?_)
  · first | refine y_ald_n E dX2_whyNotLit_20 (by rfl) ?_ | refine y_aload_n E dX2_whyNotLit_20 (by rfl) ?_
    refine y_getN E dX2_whyNotLit_21 fl_X2_133_X6 (htw) (by rfl) ?_
    refine y_if_eq (tgt := 40) E dX2_whyNotLit_24 (by decide) (by omega) (fun h24 => ?_) (fun h24 => ?_)
    · first | refine y_ald_n E dX2_whyNotLit_40 (by rfl) ?_ | refine y_aload_n E dX2_whyNotLit_40 (by rfl) ?_
      refine y_callV E dX2_whyNotLit_41 lk_X2_142 (c_isWeak hI hS hL ht) (by rfl) (htw) rfl (by decide) (by omega) (by omega) rfl (Nat.le_of_ble_eq_true rfl) ?_ (fun _ _ _ h => h.elim)
      rintro _ _ ⟨rfl, hG9⟩
      rw [hG9]
      clear hG9
      refine y_ifd_eq (tgt := 74) E dX2_whyNotLit_44 (by decide) (fun h44 => ?_) (fun h44 => ?_)
      · exact W74 (by omega) (by omega) h44
      · exact W47 (by omega) (by omega) h44
    · refine y_new E τ dX2_whyNotLit_27 nw_X2_164 (by omega) (by omega) (fun q27 hq27 => ?_)
      have htw := gs_n (v := (some τ, .inr (0, [.int (iI 0), .int (iI 0)]))) (g_nn htw hq27) htw
      refine y_dup E dX2_whyNotLit_30 rfl ?_
      refine y_iconst E dX2_whyNotLit_31 ?_
      first | refine y_ald_n E dX2_whyNotLit_32 (by rfl) ?_ | refine y_aload_n E dX2_whyNotLit_32 (by rfl) ?_
      refine y_getN E dX2_whyNotLit_33 fl_X2_137_X6 (htw) (by rfl) ?_
      refine y_callI E dX2_whyNotLit_36 lk_X2_166 (c_X4_init (τ := τ) (r := 3) (d := t) (gset_s _ _ _)) (by rfl) (by decide) (by omega) (by omega) rfl (Nat.le_of_ble_eq_true rfl) ?_ (fun _ _ _ h => h.elim)
      rintro _ G3 ⟨rfl, hG9⟩
      rw [gset_gset] at hG9
      refine y_areturn (r := some _) E F rfl (Or.inl ⟨_, rfl⟩) dX2_whyNotLit_39 (by omega) (by omega) (by unfold whyLit; rw [if_neg (by omega), if_pos (by omega)]; exact ⟨_, rfl, hq27, hG9⟩)
  · refine y_new E τ dX2_whyNotLit_7 nw_X2_164 (by omega) (by omega) (fun q7 hq7 => ?_)
    have htw := gs_n (v := (some τ, .inr (0, [.int (iI 0), .int (iI 0)]))) (g_nn htw hq7) htw
    refine y_dup E dX2_whyNotLit_10 rfl ?_
    refine y_iconst E dX2_whyNotLit_11 ?_
    first | refine y_ald_n E dX2_whyNotLit_12 (by rfl) ?_ | refine y_aload_n E dX2_whyNotLit_12 (by rfl) ?_
    refine y_getN E dX2_whyNotLit_13 fl_X2_137_X6 (htw) (by rfl) ?_
    refine y_callI E dX2_whyNotLit_16 lk_X2_166 (c_X4_init (τ := τ) (r := 2) (d := t) (gset_s _ _ _)) (by rfl) (by decide) (by omega) (by omega) rfl (Nat.le_of_ble_eq_true rfl) ?_ (fun _ _ _ h => h.elim)
    rintro _ G3 ⟨rfl, hG9⟩
    rw [gset_gset] at hG9
    refine y_areturn (r := some _) E F rfl (Or.inl ⟨_, rfl⟩) dX2_whyNotLit_19 (by omega) (by omega) (by unfold whyLit; rw [if_pos (by omega)]; exact ⟨_, rfl, hq7, hG9⟩)
end X2d
