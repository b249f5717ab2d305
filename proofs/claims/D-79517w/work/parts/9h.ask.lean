/-! ===== the component: what is asked (2): light ===== -/
section Lq
theorem cnt_0 (P : Nat → Bool) : cnt P 0 = 0 := by rw [cnt_e]; rfl
theorem cnt_s (P : Nat → Bool) (n : Nat) : cnt P (n + 1) = cnt P n + (if P n then 1 else 0) := by rw [cnt_e]; rfl
theorem cnt_sum {P : Nat → Bool} {f : Int → Int} {n : Nat} (h : ∀ k : Nat, k < n → f k = b2i (P k)) : sumI f n = (cnt P n : Nat) := by
  induction n with
  | zero => rw [show ((0 : Nat) : Int) = 0 from rfl, sumI_0, cnt_0]; rfl
  | succ n ih =>
    rw [show ((n + 1 : Nat) : Int) = (n : Int) + 1 by omega, sumI_s (by omega), ih (fun k hk => h k (by omega)), h n (by omega), cnt_s]
    cases P n <;> simp [b2i]
theorem b2i_n {P : Prop} : b2i (dB (¬ P)) = 1 - b2i (dB P) := by
  by_cases h : P
  · rw [dB_t h, dB_f (fun q => q h)]
    rfl
  · rw [dB_f h, dB_t h]
    rfl
theorem sumI_n {P : Int → Prop} {n : Int} (h : 0 ≤ n) : sumI (fun p => b2i (dB (¬ P p))) n = n - sumI (fun p => b2i (dB (P p))) n := by
  obtain ⟨m, rfl⟩ : ∃ m : Nat, n = m := ⟨n.toNat, by omega⟩
  clear h
  induction m with
  | zero => rw [show ((0 : Nat) : Int) = 0 from rfl, sumI_0, sumI_0]; rfl
  | succ m ih => rw [show ((m + 1 : Nat) : Int) = (m : Int) + 1 by omega, sumI_s (by omega), sumI_s (by omega), ih, b2i_n]; omega
end Lq
section X1l
variable {Γ : yG} {G : yH} {N x : Nat} {C : CF} {I : ID} {S : SA} {T : Nat → Int → Int} {st : Nat} {t0 : yT} {hc fp : Int} {w : Int → Int}
set_option maxHeartbeats 4000000
theorem c_X1_watcherOf (hB : gB Γ G) (hx : G x = some (t0, coE C hc fp)) (hI : isST Γ G st (kSt C) S w) (hS : SH w) (hL : LSW w) {p : Int} (hp : 0 ≤ p ∧ p ≤ 60) : Ct_X1_watcherOf Γ 4 1 4 [.ref x, .int (iI p)] (G) (fun v G' => v = some (va_rf (twO S (watS w p))) ∧ G' = G) (noX) := by
  refine y_start (lv0 := [some (.ref x), some (.int (iI p)), none, none, none]) (nm := "watcherOf") (own := RX1) (by decide +kernel) rfl rfl (by exact Nat.le_of_ble_eq_true rfl) (by rfl) ?_
  intro Z Q E F
  have hst := hI.1
  have hn := hS.nt
  have hlen := twL_len S w
  have hal := hI.2.1
  obtain ⟨fal, hac⟩ := hal.c
  have loop : ∀ it, G it = none → ∀ i : Nat, ∀ (G1 : yH) (r : Int) (l4 : Option Value), gExt G G1 → isIT Γ G1 it (sTl S) (st, 1) (twL S w) i → (i : Int) ≤ w 10 → watQ w p i r → Y Γ Z 1 4 Q G1 13 [some (.ref x), some (.int (iI p)), some (va_rf (twO S r)), some (.ref it), l4] [] := by
    intro it h0
    refine loopDownN (w 10).toNat ?_
    intro i ih G1 r l4 hE hit hi hq
    obtain ⟨fs, hitc⟩ := hit.c
    have hSt := fun h : (i : Int) < 8 => hS.t (t := (i : Int)) (by omega) h
    have hci := fun h : (i : Int) < w 10 => hS.cost (a := tw w i 0) (b := p) (by have := hS.t (t := (i : Int)) (by omega) (by omega); omega) hp
    rcases (show (r = -1) ∨ (0 ≤ r ∧ r < i) by rcases hq with q | q; · exact Or.inl q.1; · exact Or.inr ⟨q.1, q.2.1⟩) with h9 | h9
    · rw [twO_n (show r < 0 by omega)]
      first | refine y_ald_n E dX1_watcherOf_13 (by rfl) ?_ | refine y_aload_n E dX1_watcherOf_13 (by rfl) ?_
      refine y_callF E dX1_watcherOf_14 lk_X1_136_J24 (c_it_has hit (by omega)) (by rfl) (hitc) rfl (by decide) (by omega) (by omega) rfl (Nat.le_of_ble_eq_true rfl) ?_ (fun _ _ _ h => h.elim)
      rintro _ _ ⟨rfl, hG9⟩
      rw [hG9]
      clear hG9
      refine y_ifd_eq (tgt := 95) E dX1_watcherOf_19 (by decide) (fun h19 => ?_) (fun h19 => ?_)
      · refine y_forget hE ?_
        first | refine y_ald_n E dX1_watcherOf_95 (by rfl) ?_ | refine y_aload_n E dX1_watcherOf_95 (by rfl) ?_
        refine y_areturn (r := none) E F rfl (by first | exact Or.inl ⟨_, rfl⟩ | exact Or.inr ⟨_, rfl⟩) dX1_watcherOf_96 (by omega) (by omega) ⟨by rw [watS_eq (show watQ w p (w 10) r by rw [show w 10 = (i : Int) by omega]; exact hq), twO_n (by omega)]; rfl, rfl⟩
      · first | refine y_ald_n E dX1_watcherOf_22 (by rfl) ?_ | refine y_aload_n E dX1_watcherOf_22 (by rfl) ?_
        refine y_callF E dX1_watcherOf_23 lk_X1_142_J24 (c_it_next hit (twL_at (by omega))) (by rfl) (hitc) rfl (by decide) (by omega) (by omega) rfl (Nat.le_of_ble_eq_true rfl) ?_ (fun _ _ _ h => h.elim)
        rintro _ _ ⟨rfl, hit2, vv, hG9⟩
        rw [hG9] at hit2 ⊢
        clear hG9
        have hE2 := gExt_w hE (some yT0, vv) h0
        have hB1 := hB.e hE2
        have hI1 := hI.e hB hE2
        have hst1 := hI1.1
        have hx1 := hE2 _ _ hx
        have htw := isST_t hI1 (t := i) (by omega)
        unfold twX twE at htw
        have hSt := hSt (by omega)
        refine y_ccast E dX1_watcherOf_28 q1200 (htw) rfl (Or.inl rfl) ?_
        first | refine y_ast E dX1_watcherOf_31 (Nat.le_of_ble_eq_true rfl) ?_ | refine y_astore E dX1_watcherOf_31 (Nat.le_of_ble_eq_true rfl) ?_ | refine y_astore (r := none) E dX1_watcherOf_31 (Nat.le_of_ble_eq_true rfl) ?_
        first | refine y_ald E dX1_watcherOf_33 (by rfl) ?_ | refine y_aload E dX1_watcherOf_33 (by rfl) ?_
        refine y_getN E dX1_watcherOf_35 fl_X1_220_X6 (htw) (by rfl) ?_
        refine y_if_eq (tgt := 13) E dX1_watcherOf_38 (by decide) (by omega) (fun h38 => ?_) (fun h38 => ?_)
        · first
            | (refine y_lv (lv' := [some (.ref x), some (.int (iI p)), some (va_rf (twO S (i : Int))), some (.ref it), some (.ref (sTa S i))]) (by rw [twO_s (by omega), Int.toNat_natCast]; rfl) ?_
               exact ih (by omega) _ _ _ hE2 hit2 (by omega) (watQ_take (by omega) hq ⟨by omega, h51⟩ (fun q => by omega)))
            | (refine y_lv (lv' := [some (.ref x), some (.int (iI p)), some (va_rf (twO S r)), some (.ref it), some (.ref (sTa S i))]) (by rw [twO_n (by omega)]) ?_
               exact ih (by omega) _ _ _ hE2 hit2 (by omega) (watQ_skip hq (fun q => absurd q.2 h51)))
            | (refine y_lv (lv' := [some (.ref x), some (.int (iI p)), some (va_rf (twO S r)), some (.ref it), some (.ref (sTa S i))]) (by rw [twO_n (by omega)]) ?_
               exact ih (by omega) _ _ _ hE2 hit2 (by omega) (watQ_skip hq (fun q => by have := q.1; omega)))
        · first | refine y_ald_n E dX1_watcherOf_41 (by rfl) ?_ | refine y_aload_n E dX1_watcherOf_41 (by rfl) ?_
          refine y_get E dX1_watcherOf_42 fl_X1_10_X1 (hx1) (by rfl) ?_
          first | refine y_ald E dX1_watcherOf_45 (by rfl) ?_ | refine y_aload E dX1_watcherOf_45 (by rfl) ?_
          refine y_iload_n E dX1_watcherOf_47 (by rfl) ?_
          refine y_callV E dX1_watcherOf_48 lk_X1_282 (c_X2_reaches hB1 hI1 hS hL (t := i) (by omega) hp) (by rfl) (hst1) rfl (by decide) (by omega) (by omega) rfl (Nat.le_of_ble_eq_true rfl) ?_ (fun _ _ _ h => h.elim)
          rintro _ _ ⟨rfl, hG9⟩
          rw [hG9]
          clear hG9
          refine y_ifd_ne (tgt := 57) E dX1_watcherOf_51 (by decide) (fun h51 => ?_) (fun h51 => ?_)
          · first | refine y_ald_n E dX1_watcherOf_57 (by rfl) ?_ | refine y_aload_n E dX1_watcherOf_57 (by rfl) ?_
            refine y_ifnull_n (tgt := 89) E dX1_watcherOf_58 (by decide) ?_
            first | refine y_ald E dX1_watcherOf_89 (by rfl) ?_ | refine y_aload E dX1_watcherOf_89 (by rfl) ?_
            first | refine y_ast_n (j := 2) E dX1_watcherOf_91 rfl (Nat.le_of_ble_eq_true rfl) ?_ | refine y_astore_n (j := 2) E dX1_watcherOf_91 rfl (Nat.le_of_ble_eq_true rfl) ?_ | refine y_astore_n (j := 2) (r := none) E dX1_watcherOf_91 rfl (Nat.le_of_ble_eq_true rfl) ?_
            refine y_goto (tgt := 13) E dX1_watcherOf_92 (by decide) ?_
            first
              | (refine y_lv (lv' := [some (.ref x), some (.int (iI p)), some (va_rf (twO S (i : Int))), some (.ref it), some (.ref (sTa S i))]) (by rw [twO_s (by omega), Int.toNat_natCast]; rfl) ?_
                 exact ih (by omega) _ _ _ hE2 hit2 (by omega) (watQ_take (by omega) hq ⟨by omega, h51⟩ (fun q => by omega)))
              | (refine y_lv (lv' := [some (.ref x), some (.int (iI p)), some (va_rf (twO S r)), some (.ref it), some (.ref (sTa S i))]) (by rw [twO_n (by omega)]) ?_
                 exact ih (by omega) _ _ _ hE2 hit2 (by omega) (watQ_skip hq (fun q => absurd q.2 h51)))
              | (refine y_lv (lv' := [some (.ref x), some (.int (iI p)), some (va_rf (twO S r)), some (.ref it), some (.ref (sTa S i))]) (by rw [twO_n (by omega)]) ?_
                 exact ih (by omega) _ _ _ hE2 hit2 (by omega) (watQ_skip hq (fun q => by have := q.1; omega)))
          · refine y_goto (tgt := 13) E dX1_watcherOf_54 (by decide) ?_
            first
              | (refine y_lv (lv' := [some (.ref x), some (.int (iI p)), some (va_rf (twO S (i : Int))), some (.ref it), some (.ref (sTa S i))]) (by rw [twO_s (by omega), Int.toNat_natCast]; rfl) ?_
                 exact ih (by omega) _ _ _ hE2 hit2 (by omega) (watQ_take (by omega) hq ⟨by omega, h51⟩ (fun q => by omega)))
              | (refine y_lv (lv' := [some (.ref x), some (.int (iI p)), some (va_rf (twO S r)), some (.ref it), some (.ref (sTa S i))]) (by rw [twO_n (by omega)]) ?_
                 exact ih (by omega) _ _ _ hE2 hit2 (by omega) (watQ_skip hq (fun q => absurd q.2 h51)))
              | (refine y_lv (lv' := [some (.ref x), some (.int (iI p)), some (va_rf (twO S r)), some (.ref it), some (.ref (sTa S i))]) (by rw [twO_n (by omega)]) ?_
                 exact ih (by omega) _ _ _ hE2 hit2 (by omega) (watQ_skip hq (fun q => by have := q.1; omega)))
    · rw [twO_s h9.1]
      have hcr := hS.cost (a := tw w r 0) (b := p) (by have := hS.t (t := r) (by omega) (by omega); omega) hp
      have hSr := hS.t (t := r) (by omega) (by omega)
      first | refine y_ald_n E dX1_watcherOf_13 (by rfl) ?_ | refine y_aload_n E dX1_watcherOf_13 (by rfl) ?_
      refine y_callF E dX1_watcherOf_14 lk_X1_136_J24 (c_it_has hit (by omega)) (by rfl) (hitc) rfl (by decide) (by omega) (by omega) rfl (Nat.le_of_ble_eq_true rfl) ?_ (fun _ _ _ h => h.elim)
      rintro _ _ ⟨rfl, hG9⟩
      rw [hG9]
      clear hG9
      refine y_ifd_eq (tgt := 95) E dX1_watcherOf_19 (by decide) (fun h19 => ?_) (fun h19 => ?_)
      · refine y_forget hE ?_
        first | refine y_ald_n E dX1_watcherOf_95 (by rfl) ?_ | refine y_aload_n E dX1_watcherOf_95 (by rfl) ?_
        refine y_areturn (r := some _) E F rfl (by first | exact Or.inl ⟨_, rfl⟩ | exact Or.inr ⟨_, rfl⟩) dX1_watcherOf_96 (by omega) (by omega) ⟨by rw [watS_eq (show watQ w p (w 10) r by rw [show w 10 = (i : Int) by omega]; exact hq), twO_s (by omega)]; rfl, rfl⟩
      · first | refine y_ald_n E dX1_watcherOf_22 (by rfl) ?_ | refine y_aload_n E dX1_watcherOf_22 (by rfl) ?_
        refine y_callF E dX1_watcherOf_23 lk_X1_142_J24 (c_it_next hit (twL_at (by omega))) (by rfl) (hitc) rfl (by decide) (by omega) (by omega) rfl (Nat.le_of_ble_eq_true rfl) ?_ (fun _ _ _ h => h.elim)
        rintro _ _ ⟨rfl, hit2, vv, hG9⟩
        rw [hG9] at hit2 ⊢
        clear hG9
        have hE2 := gExt_w hE (some yT0, vv) h0
        have hB1 := hB.e hE2
        have hI1 := hI.e hB hE2
        have hst1 := hI1.1
        have hx1 := hE2 _ _ hx
        have htw := isST_t hI1 (t := i) (by omega)
        have hbw := isST_t hI1 (t := r.toNat) (by omega)
        unfold twX twE at htw hbw
        rw [show ((r.toNat : Nat) : Int) = r by omega] at hbw
        have hSt := hSt (by omega)
        have hci := hci (by omega)
        refine y_ccast E dX1_watcherOf_28 q1200 (htw) rfl (Or.inl rfl) ?_
        first | refine y_ast E dX1_watcherOf_31 (Nat.le_of_ble_eq_true rfl) ?_ | refine y_astore E dX1_watcherOf_31 (Nat.le_of_ble_eq_true rfl) ?_ | refine y_astore (r := none) E dX1_watcherOf_31 (Nat.le_of_ble_eq_true rfl) ?_
        first | refine y_ald E dX1_watcherOf_33 (by rfl) ?_ | refine y_aload E dX1_watcherOf_33 (by rfl) ?_
        refine y_getN E dX1_watcherOf_35 fl_X1_220_X6 (htw) (by rfl) ?_
        refine y_if_eq (tgt := 13) E dX1_watcherOf_38 (by decide) (by omega) (fun h38 => ?_) (fun h38 => ?_)
        · first
            | (refine y_lv (lv' := [some (.ref x), some (.int (iI p)), some (va_rf (twO S (i : Int))), some (.ref it), some (.ref (sTa S i))]) (by rw [twO_s (by omega), Int.toNat_natCast]; rfl) ?_
               exact ih (by omega) _ _ _ hE2 hit2 (by omega) (watQ_take (by omega) hq ⟨by omega, h51⟩ (fun q => by unfold wcC; omega)))
            | (refine y_lv (lv' := [some (.ref x), some (.int (iI p)), some (va_rf (twO S r)), some (.ref it), some (.ref (sTa S i))]) (by rw [twO_s (by omega)]; rfl) ?_
               first
               | exact ih (by omega) _ _ _ hE2 hit2 (by omega) (watQ_skip hq (fun q => absurd q.2 h51))
               | exact ih (by omega) _ _ _ hE2 hit2 (by omega) (watQ_skip hq (fun q => by have := q.1; omega))
               | exact ih (by omega) _ _ _ hE2 hit2 (by omega) (watQ_skip hq (fun q => ⟨by omega, by unfold wcC; omega⟩)))
        · first | refine y_ald_n E dX1_watcherOf_41 (by rfl) ?_ | refine y_aload_n E dX1_watcherOf_41 (by rfl) ?_
          refine y_get E dX1_watcherOf_42 fl_X1_10_X1 (hx1) (by rfl) ?_
          first | refine y_ald E dX1_watcherOf_45 (by rfl) ?_ | refine y_aload E dX1_watcherOf_45 (by rfl) ?_
          refine y_iload_n E dX1_watcherOf_47 (by rfl) ?_
          refine y_callV E dX1_watcherOf_48 lk_X1_282 (c_X2_reaches hB1 hI1 hS hL (t := i) (by omega) hp) (by rfl) (hst1) rfl (by decide) (by omega) (by omega) rfl (Nat.le_of_ble_eq_true rfl) ?_ (fun _ _ _ h => h.elim)
          rintro _ _ ⟨rfl, hG9⟩
          rw [hG9]
          clear hG9
          refine y_ifd_ne (tgt := 57) E dX1_watcherOf_51 (by decide) (fun h51 => ?_) (fun h51 => ?_)
          · first | refine y_ald_n E dX1_watcherOf_57 (by rfl) ?_ | refine y_aload_n E dX1_watcherOf_57 (by rfl) ?_
            refine y_ifnull_r E dX1_watcherOf_58 ?_
            first | refine y_ald_n E dX1_watcherOf_61 (by rfl) ?_ | refine y_aload_n E dX1_watcherOf_61 (by rfl) ?_
            refine y_get E dX1_watcherOf_62 fl_X1_10_X1 (hx1) (by rfl) ?_
            first | refine y_ald E dX1_watcherOf_65 (by rfl) ?_ | refine y_aload E dX1_watcherOf_65 (by rfl) ?_
            refine y_getN E dX1_watcherOf_67 fl_X1_147_X6 (htw) (by rfl) ?_
            refine y_iload_n E dX1_watcherOf_70 (by rfl) ?_
            refine y_callV E dX1_watcherOf_71 lk_X1_279 (c_X2_cost hI1 (by omega) hp) (by rfl) (hst1) rfl (by decide) (by omega) (by omega) rfl (Nat.le_of_ble_eq_true rfl) ?_ (fun _ _ _ h => h.elim)
            rintro _ _ ⟨rfl, hG9⟩
            rw [hG9]
            clear hG9
            first | refine y_ald_n E dX1_watcherOf_74 (by rfl) ?_ | refine y_aload_n E dX1_watcherOf_74 (by rfl) ?_
            refine y_get E dX1_watcherOf_75 fl_X1_10_X1 (hx1) (by rfl) ?_
            first | refine y_ald_n E dX1_watcherOf_78 (by rfl) ?_ | refine y_aload_n E dX1_watcherOf_78 (by rfl) ?_
            refine y_getN E dX1_watcherOf_79 fl_X1_147_X6 (hbw) (by rfl) ?_
            refine y_iload_n E dX1_watcherOf_82 (by rfl) ?_
            refine y_callV E dX1_watcherOf_83 lk_X1_279 (c_X2_cost hI1 (by omega) hp) (by rfl) (hst1) rfl (by decide) (by omega) (by omega) rfl (Nat.le_of_ble_eq_true rfl) ?_ (fun _ _ _ h => h.elim)
            rintro _ _ ⟨rfl, hG9⟩
            rw [hG9]
            clear hG9
            refine y_icmp_ge (tgt := 92) E dX1_watcherOf_86 (by decide) (by omega) (by omega) (fun h86 => ?_) (fun h86 => ?_)
            · refine y_goto (tgt := 13) E dX1_watcherOf_92 (by decide) ?_
              first
                | (refine y_lv (lv' := [some (.ref x), some (.int (iI p)), some (va_rf (twO S (i : Int))), some (.ref it), some (.ref (sTa S i))]) (by rw [twO_s (by omega), Int.toNat_natCast]; rfl) ?_
                   exact ih (by omega) _ _ _ hE2 hit2 (by omega) (watQ_take (by omega) hq ⟨by omega, h51⟩ (fun q => by unfold wcC; omega)))
                | (refine y_lv (lv' := [some (.ref x), some (.int (iI p)), some (va_rf (twO S r)), some (.ref it), some (.ref (sTa S i))]) (by rw [twO_s (by omega)]; rfl) ?_
                   first
                   | exact ih (by omega) _ _ _ hE2 hit2 (by omega) (watQ_skip hq (fun q => absurd q.2 h51))
                   | exact ih (by omega) _ _ _ hE2 hit2 (by omega) (watQ_skip hq (fun q => by have := q.1; omega))
                   | exact ih (by omega) _ _ _ hE2 hit2 (by omega) (watQ_skip hq (fun q => ⟨by omega, by unfold wcC; omega⟩)))
            · first | refine y_ald E dX1_watcherOf_89 (by rfl) ?_ | refine y_aload E dX1_watcherOf_89 (by rfl) ?_
              first | refine y_ast_n (j := 2) E dX1_watcherOf_91 rfl (Nat.le_of_ble_eq_true rfl) ?_ | refine y_astore_n (j := 2) E dX1_watcherOf_91 rfl (Nat.le_of_ble_eq_true rfl) ?_ | refine y_astore_n (j := 2) (r := none) E dX1_watcherOf_91 rfl (Nat.le_of_ble_eq_true rfl) ?_
              refine y_goto (tgt := 13) E dX1_watcherOf_92 (by decide) ?_
              first
                | (refine y_lv (lv' := [some (.ref x), some (.int (iI p)), some (va_rf (twO S (i : Int))), some (.ref it), some (.ref (sTa S i))]) (by rw [twO_s (by omega), Int.toNat_natCast]; rfl) ?_
                   exact ih (by omega) _ _ _ hE2 hit2 (by omega) (watQ_take (by omega) hq ⟨by omega, h51⟩ (fun q => by unfold wcC; omega)))
                | (refine y_lv (lv' := [some (.ref x), some (.int (iI p)), some (va_rf (twO S r)), some (.ref it), some (.ref (sTa S i))]) (by rw [twO_s (by omega)]; rfl) ?_
                   first
                   | exact ih (by omega) _ _ _ hE2 hit2 (by omega) (watQ_skip hq (fun q => absurd q.2 h51))
                   | exact ih (by omega) _ _ _ hE2 hit2 (by omega) (watQ_skip hq (fun q => by have := q.1; omega))
                   | exact ih (by omega) _ _ _ hE2 hit2 (by omega) (watQ_skip hq (fun q => ⟨by omega, by unfold wcC; omega⟩)))
          · refine y_goto (tgt := 13) E dX1_watcherOf_54 (by decide) ?_
            first
              | (refine y_lv (lv' := [some (.ref x), some (.int (iI p)), some (va_rf (twO S (i : Int))), some (.ref it), some (.ref (sTa S i))]) (by rw [twO_s (by omega), Int.toNat_natCast]; rfl) ?_
                 exact ih (by omega) _ _ _ hE2 hit2 (by omega) (watQ_take (by omega) hq ⟨by omega, h51⟩ (fun q => by unfold wcC; omega)))
              | (refine y_lv (lv' := [some (.ref x), some (.int (iI p)), some (va_rf (twO S r)), some (.ref it), some (.ref (sTa S i))]) (by rw [twO_s (by omega)]; rfl) ?_
                 first
                 | exact ih (by omega) _ _ _ hE2 hit2 (by omega) (watQ_skip hq (fun q => absurd q.2 h51))
                 | exact ih (by omega) _ _ _ hE2 hit2 (by omega) (watQ_skip hq (fun q => by have := q.1; omega))
                 | exact ih (by omega) _ _ _ hE2 hit2 (by omega) (watQ_skip hq (fun q => ⟨by omega, by unfold wcC; omega⟩)))
  refine y_null E dX1_watcherOf_0 ?_
  first | refine y_ast_n (j := 2) E dX1_watcherOf_1 rfl (Nat.le_of_ble_eq_true rfl) ?_ | refine y_astore_n (j := 2) E dX1_watcherOf_1 rfl (Nat.le_of_ble_eq_true rfl) ?_ | refine y_astore_n (j := 2) (r := none) E dX1_watcherOf_1 rfl (Nat.le_of_ble_eq_true rfl) ?_
  first | refine y_ald_n E dX1_watcherOf_2 (by rfl) ?_ | refine y_aload_n E dX1_watcherOf_2 (by rfl) ?_
  refine y_get E dX1_watcherOf_3 fl_X1_10_X1 (hx) (by rfl) ?_
  refine y_getN E dX1_watcherOf_6 fl_X1_78_X2 (hst) (by rfl) ?_
  refine y_callV E dX1_watcherOf_9 lk_X1_132 (c_it_new hB hal) (by rfl) (hac) rfl (by decide) (by omega) (by omega) rfl (Nat.le_of_ble_eq_true rfl) ?_ (fun _ _ _ h => h.elim)
  rintro _ G1 ⟨it, vv, rfl, h0, hit, hG9⟩
  first | refine y_ast_n (j := 3) E dX1_watcherOf_12 rfl (Nat.le_of_ble_eq_true rfl) ?_ | refine y_astore_n (j := 3) E dX1_watcherOf_12 rfl (Nat.le_of_ble_eq_true rfl) ?_ | refine y_astore_n (j := 3) (r := none) E dX1_watcherOf_12 rfl (Nat.le_of_ble_eq_true rfl) ?_
  refine y_lv (lv' := [some (.ref x), some (.int (iI p)), some (va_rf (twO S (-1))), some (.ref it), none]) (by rw [twO_n (by omega)]; rfl) ?_
  exact loop it h0 0 G1 (-1) _ (by rw [hG9]; exact gExt_n h0) hit (by omega) (watQ_0 _ _)
theorem c_X1_watcher (hB : gB Γ G) (hC : isC Γ G N x C I S T) (hS : SH (T 5)) (hL : LSW (T 5)) {p : Int} (hp : inR p) : Ct_X1_watcher Γ 5 2 10 [.ref x, .int (iI p)] (G) (fun v G' => ansI v (q_watcher (T 5) p) ∧ G' = G) (fun E G' => xs [eI, eN] (q_watcher (T 5) p).1 E ∧ G' = G) := by
  refine y_start (lv0 := [some (.ref x), some (.int (iI p)), none]) (nm := "watcher") (own := RX1) (by decide +kernel) rfl rfl (by exact Nat.le_of_ble_eq_true rfl) (by rfl) ?_
  intro Z Q E F
  have hx := hC.o
  have hI := hC.s
  have hst := hI.1
  have hn := hS.nt
  obtain ⟨w, hw⟩ : ∃ w, w = T 5 := ⟨_, rfl⟩
  rw [← hw] at hI hst hn hS ⊢
  rw [← hw] at hL
  have hwi := watS_in hS p
  have no : ¬ (0 ≤ p ∧ p ≤ 60) → q_watcher w p = (1, 0) := fun h => if_pos h
  have no2 : 0 ≤ p ∧ p ≤ 60 → watS w p < 0 → q_watcher w p = (2, 0) := fun h g => by unfold q_watcher; rw [if_neg (fun q => q h), if_pos g]
  have yes : 0 ≤ p ∧ p ≤ 60 → ¬ watS w p < 0 → q_watcher w p = (0, watS w p) := fun h g => by unfold q_watcher; rw [if_neg (fun q => q h), if_neg g]
  by_cases h9 : watS w p < 0
  · refine y_iload_n E dX1_watcher_0 (by rfl) ?_
    refine y_callS E dX1_watcher_1 lk_X1_118 (c_X1_isPlace hp) (by rfl) (by decide) (by omega) (by omega) rfl (Nat.le_of_ble_eq_true rfl) ?_ (fun _ _ _ h => h.elim)
    rintro _ _ ⟨rfl, hG9⟩
    rw [hG9]
    clear hG9
    refine y_callS E dX1_watcher_4 lk_X1_122 (c_X1_checkIndex_b) (by rfl) (by decide) (by omega) (by omega) rfl (Nat.le_of_ble_eq_true rfl) ?_ ?_
    swap
    · rintro _ _ _ ⟨rfl, h4, rfl⟩
      exact y_xout E F (by omega) (by omega) (⟨xs_0 (okP (no h4)).1, rfl⟩)
    rintro _ _ ⟨rfl, h4, rfl⟩
    first | refine y_ald_n E dX1_watcher_7 (by rfl) ?_ | refine y_aload_n E dX1_watcher_7 (by rfl) ?_
    refine y_iload_n E dX1_watcher_8 (by rfl) ?_
    refine y_callV E dX1_watcher_9 lk_X1_309 (c_X1_watcherOf hB hx hI hS hL h4) (by rfl) (hx) rfl (by decide) (by omega) (by omega) rfl (Nat.le_of_ble_eq_true rfl) ?_ (fun _ _ _ h => h.elim)
    rintro _ _ ⟨rfl, hG9⟩
    rw [hG9]
    clear hG9
    rw [twO_n h9]
    first | refine y_ast_n (j := 2) E dX1_watcher_12 rfl (Nat.le_of_ble_eq_true rfl) ?_ | refine y_astore_n (j := 2) E dX1_watcher_12 rfl (Nat.le_of_ble_eq_true rfl) ?_ | refine y_astore_n (j := 2) (r := none) E dX1_watcher_12 rfl (Nat.le_of_ble_eq_true rfl) ?_
    first | refine y_ald_n E dX1_watcher_13 (by rfl) ?_ | refine y_aload_n E dX1_watcher_13 (by rfl) ?_
    refine y_ifnull_n (tgt := 21) E dX1_watcher_14 (by decide) ?_
    refine y_iconst E dX1_watcher_21 ?_
    refine y_callS E dX1_watcher_22 lk_X1_286 (c_X1_checkElement_f) (by rfl) (by decide) (by omega) (by omega) rfl (Nat.le_of_ble_eq_true rfl) (fun _ _ h => h.elim) ?_
    rintro _ _ _ ⟨rfl, rfl⟩
    exact y_xout E F (by omega) (by omega) (⟨xs_1 (okP (no2 h4 h9)).1, rfl⟩)
  · have hwn : (0 ≤ p ∧ p ≤ 60) → (watS w p) < w 10 := fun h => by
      rcases watS_ok (w := w) (by omega) p with q | q
      · omega
      · exact q.2.1
    refine y_iload_n E dX1_watcher_0 (by rfl) ?_
    refine y_callS E dX1_watcher_1 lk_X1_118 (c_X1_isPlace hp) (by rfl) (by decide) (by omega) (by omega) rfl (Nat.le_of_ble_eq_true rfl) ?_ (fun _ _ _ h => h.elim)
    rintro _ _ ⟨rfl, hG9⟩
    rw [hG9]
    clear hG9
    refine y_callS E dX1_watcher_4 lk_X1_122 (c_X1_checkIndex_b) (by rfl) (by decide) (by omega) (by omega) rfl (Nat.le_of_ble_eq_true rfl) ?_ ?_
    swap
    · rintro _ _ _ ⟨rfl, h4, rfl⟩
      exact y_xout E F (by omega) (by omega) (⟨xs_0 (okP (no h4)).1, rfl⟩)
    rintro _ _ ⟨rfl, h4, rfl⟩
    first | refine y_ald_n E dX1_watcher_7 (by rfl) ?_ | refine y_aload_n E dX1_watcher_7 (by rfl) ?_
    refine y_iload_n E dX1_watcher_8 (by rfl) ?_
    refine y_callV E dX1_watcher_9 lk_X1_309 (c_X1_watcherOf hB hx hI hS hL h4) (by rfl) (hx) rfl (by decide) (by omega) (by omega) rfl (Nat.le_of_ble_eq_true rfl) ?_ (fun _ _ _ h => h.elim)
    rintro _ _ ⟨rfl, hG9⟩
    rw [hG9]
    clear hG9
    have htw := isST_t hI (t := (watS w p).toNat) (by have := hwn h4; omega)
    unfold twX twE at htw
    rw [twO_s (by omega)]
    first | refine y_ast_n (j := 2) E dX1_watcher_12 rfl (Nat.le_of_ble_eq_true rfl) ?_ | refine y_astore_n (j := 2) E dX1_watcher_12 rfl (Nat.le_of_ble_eq_true rfl) ?_ | refine y_astore_n (j := 2) (r := none) E dX1_watcher_12 rfl (Nat.le_of_ble_eq_true rfl) ?_
    first | refine y_ald_n E dX1_watcher_13 (by rfl) ?_ | refine y_aload_n E dX1_watcher_13 (by rfl) ?_
    refine y_ifnull_r E dX1_watcher_14 ?_
    refine y_iconst E dX1_watcher_17 ?_
    refine y_goto (tgt := 22) E dX1_watcher_18 (by decide) ?_
    refine y_callS E dX1_watcher_22 lk_X1_286 (c_X1_checkElement_t) (by rfl) (by decide) (by omega) (by omega) rfl (Nat.le_of_ble_eq_true rfl) ?_ (fun _ _ _ h => h.elim)
    rintro _ _ ⟨rfl, rfl⟩
    first | refine y_ald_n E dX1_watcher_25 (by rfl) ?_ | refine y_aload_n E dX1_watcher_25 (by rfl) ?_
    refine y_ifnonnull_r (tgt := 33) E dX1_watcher_26 (by decide) ?_
    first | refine y_ald_n E dX1_watcher_33 (by rfl) ?_ | refine y_aload_n E dX1_watcher_33 (by rfl) ?_
    refine y_getN E dX1_watcher_34 fl_X1_150_X6 (htw) (by rfl) ?_
    refine y_ireturn E F rfl rfl dX1_watcher_37 (by omega) (by omega) ⟨ansI_i (by rw [yes h4 h9, show (((watS w p).toNat : Nat) : Int) = watS w p by omega]), rfl⟩
theorem c_X1_watched (hB : gB Γ G) (hC : isC Γ G N x C I S T) (hS : SH (T 5)) (hL : LSW (T 5)) {t : Int} (ht : inR t) : Ct_X1_watched Γ 5 62 250 [.ref x, .int (iI t)] (G) (fun v G' => ansI v (q_watched (T 5) t) ∧ G' = G) (fun E G' => xs [eI] (q_watched (T 5) t).1 E ∧ G' = G) := by
  refine y_start (lv0 := [some (.ref x), some (.int (iI t)), none, none]) (nm := "watched") (own := RX1) (by decide +kernel) rfl rfl (by exact Nat.le_of_ble_eq_true rfl) (by rfl) ?_
  intro Z Q E F
  have hx := hC.o
  have hI := hC.s
  have hst := hI.1
  have hn := hS.nt
  obtain ⟨w, hw⟩ : ∃ w, w = T 5 := ⟨_, rfl⟩
  rw [← hw] at hI hst hn hS ⊢
  rw [← hw] at hL
  have no : ¬ (0 ≤ t ∧ t ≤ w 10 - 1) → q_watched w t = (1, 0) := fun h => if_pos h
  have yes : 0 ≤ t ∧ t ≤ w 10 - 1 → q_watched w t = (0, sumI (fun p => b2i (dB (watS w p = t))) 61) := fun h => if_neg (fun q => q h)
  have key : 0 ≤ t ∧ t ≤ w 10 - 1 → ∀ p : Int, (twO S (watS w p) = some (sTa S t.toNat)) ↔ watS w p = t := fun h p => by
    constructor
    · intro e
      by_cases h9 : watS w p < 0
      · rw [twO_n h9] at e
        cases e
      · rw [twO_s (by omega)] at e
        have e := Option.some.inj e
        have hwn : watS w p < w 10 := by
          rcases watS_ok (w := w) (by omega) p with q | q
          · omega
          · exact q.2.1
        have := sTa_inj hI (by omega) (by omega) (by omega) e
        omega
    · intro e
      rw [e, twO_s h.1]
  have loop : 0 ≤ t ∧ t ≤ w 10 - 1 → ∀ p : Nat, ∀ n : Int, (p : Int) ≤ 61 → n = sumI (fun p => b2i (dB (watS w p = t))) p → Y Γ Z p (4 * p) Q G 12 [some (.ref x), some (.int (iI t)), some (.int (iI n)), some (.int (iI (p : Int)))] [] := by
    intro htr
    refine loopDownN 61 ?_
    intro p ih n hp hn2
    refine y_iload_n E dX1_watched_12 (by rfl) ?_
    refine y_bipush E dX1_watched_13 (by decide) ?_
    refine y_icmp_ge (tgt := 45) E dX1_watched_15 (by decide) (by omega) (by omega) (fun h15 => ?_) (fun h15 => ?_)
    · refine y_iload_n E dX1_watched_45 (by rfl) ?_
      refine y_ireturn E F rfl rfl dX1_watched_46 (by omega) (by omega) ⟨ansI_i (by rw [yes htr, hn2, show (p : Int) = 61 by omega]), rfl⟩
    · refine y_iload_n E dX1_watched_18 (by rfl) ?_
      first | refine y_ald_n E dX1_watched_19 (by rfl) ?_ | refine y_aload_n E dX1_watched_19 (by rfl) ?_
      refine y_iload_n E dX1_watched_20 (by rfl) ?_
      refine y_callV E dX1_watched_21 lk_X1_309 (c_X1_watcherOf hB hx hI hS hL (p := (p : Int)) (by omega)) (by rfl) (hx) rfl (by decide) (by omega) (by omega) rfl (Nat.le_of_ble_eq_true rfl) ?_ (fun _ _ _ h => h.elim)
      rintro _ _ ⟨rfl, hG9⟩
      rw [hG9]
      clear hG9
      first | refine y_ald_n E dX1_watched_24 (by rfl) ?_ | refine y_aload_n E dX1_watched_24 (by rfl) ?_
      refine y_iload_n E dX1_watched_25 (by rfl) ?_
      refine y_callV E dX1_watched_26 lk_X1_189 (c_X1_at hx hI hS (t := t) (by omega) (by omega)) (by rfl) (hx) rfl (by decide) (by omega) (by omega) rfl (Nat.le_of_ble_eq_true rfl) ?_ (fun _ _ _ h => h.elim)
      rintro _ _ ⟨rfl, hG9⟩
      rw [hG9]
      clear hG9
      refine y_acmp_ne (x := twO S (watS w p)) (y := some (sTa S t.toNat)) (tgt := 36) E dX1_watched_29 (by decide) (fun h29 => ?_) (fun h29 => ?_)
      · refine y_iconst E dX1_watched_36 ?_
        refine y_iadd E dX1_watched_37 ?_
        refine y_istore_n (j := 2) E dX1_watched_38 rfl (Nat.le_of_ble_eq_true rfl) ?_
        refine y_iinc E dX1_watched_39 (by rfl) ?_
        refine y_goto (tgt := 12) E dX1_watched_42 (by decide) ?_
        refine y_widen (by omega) (by omega) (ih (by omega) _ (by omega) (by show _ = sumI _ ((p : Int) + 1); rw [sumI_s (by omega), hn2]; first | (rw [b2i_dt ((key htr p).mp h29)]; done) | (rw [b2i_df (fun q => h29 ((key htr p).mpr q))]; done)))
      · refine y_iconst E dX1_watched_32 ?_
        refine y_goto (tgt := 37) E dX1_watched_33 (by decide) ?_
        refine y_iadd E dX1_watched_37 ?_
        refine y_istore_n (j := 2) E dX1_watched_38 rfl (Nat.le_of_ble_eq_true rfl) ?_
        refine y_iinc E dX1_watched_39 (by rfl) ?_
        refine y_goto (tgt := 12) E dX1_watched_42 (by decide) ?_
        refine y_widen (by omega) (by omega) (ih (by omega) _ (by omega) (by show _ = sumI _ ((p : Int) + 1); rw [sumI_s (by omega), hn2]; first | (rw [b2i_dt ((key htr p).mp h29)]; done) | (rw [b2i_df (fun q => h29 ((key htr p).mpr q))]; done)))
  first | refine y_ald_n E dX1_watched_0 (by rfl) ?_ | refine y_aload_n E dX1_watched_0 (by rfl) ?_
  refine y_iload_n E dX1_watched_1 (by rfl) ?_
  refine y_callV E dX1_watched_2 lk_X1_177 (c_X1_isTower hx hI hS ht) (by rfl) (hx) rfl (by decide) (by omega) (by omega) rfl (Nat.le_of_ble_eq_true rfl) ?_ (fun _ _ _ h => h.elim)
  rintro _ _ ⟨rfl, hG9⟩
  rw [hG9]
  clear hG9
  refine y_callS E dX1_watched_5 lk_X1_122 (c_X1_checkIndex_b) (by rfl) (by decide) (by omega) (by omega) rfl (Nat.le_of_ble_eq_true rfl) ?_ ?_
  swap
  · rintro _ _ _ ⟨rfl, h5, rfl⟩
    exact y_xout E F (by omega) (by omega) (⟨xs_0 (okP (no h5)).1, rfl⟩)
  rintro _ _ ⟨rfl, h5, rfl⟩
  refine y_iconst E dX1_watched_8 ?_
  refine y_istore_n (j := 2) E dX1_watched_9 rfl (Nat.le_of_ble_eq_true rfl) ?_
  refine y_iconst E dX1_watched_10 ?_
  refine y_istore_n (j := 3) E dX1_watched_11 rfl (Nat.le_of_ble_eq_true rfl) ?_
  exact y_widen (by omega) (by omega) (loop h5 0 0 (by omega) (sumI_0 _).symm)
theorem c_X1_unwatched (hB : gB Γ G) (hx : G x = some (t0, coE C hc fp)) (hI : isST Γ G st (kSt C) S w) (hS : SH w) (hL : LSW w) : Ct_X1_unwatched Γ 5 61 244 [.ref x] (G) (fun v G' => v = some (.int (iI (unwS w))) ∧ G' = G) (noX) := by
  refine y_start (lv0 := [some (.ref x), none, none]) (nm := "unwatched") (own := RX1) (by decide +kernel) rfl rfl (by exact Nat.le_of_ble_eq_true rfl) (by rfl) ?_
  intro Z Q E F
  have key : ∀ p : Int, (twO S (watS w p) = none) ↔ watS w p = -1 := fun p => by
    have := watS_in hS p
    constructor
    · intro e
      by_cases h9 : watS w p < 0
      · omega
      · rw [twO_s (by omega)] at e
        cases e
    · intro e
      rw [e, twO_n (by decide)]
  have loop : ∀ p : Nat, ∀ n : Int, (p : Int) ≤ 61 → n = sumI (fun p => b2i (dB (watS w p = -1))) p → Y Γ Z p (4 * p) Q G 4 [some (.ref x), some (.int (iI n)), some (.int (iI (p : Int)))] [] := by
    refine loopDownN 61 ?_
    intro p ih n hp hn2
    refine y_iload_n E dX1_unwatched_4 (by rfl) ?_
    refine y_bipush E dX1_unwatched_5 (by decide) ?_
    refine y_icmp_ge (tgt := 32) E dX1_unwatched_7 (by decide) (by omega) (by omega) (fun h7 => ?_) (fun h7 => ?_)
    · refine y_iload_n E dX1_unwatched_32 (by rfl) ?_
      refine y_ireturn E F rfl rfl dX1_unwatched_33 (by omega) (by omega) ⟨rI (by rw [hn2, show (p : Int) = 61 by omega]; rfl), rfl⟩
    · refine y_iload_n E dX1_unwatched_10 (by rfl) ?_
      first | refine y_ald_n E dX1_unwatched_11 (by rfl) ?_ | refine y_aload_n E dX1_unwatched_11 (by rfl) ?_
      refine y_iload_n E dX1_unwatched_12 (by rfl) ?_
      refine y_callV E dX1_unwatched_13 lk_X1_309 (c_X1_watcherOf hB hx hI hS hL (p := (p : Int)) (by omega)) (by rfl) (hx) rfl (by decide) (by omega) (by omega) rfl (Nat.le_of_ble_eq_true rfl) ?_ (fun _ _ _ h => h.elim)
      rintro _ _ ⟨rfl, hG9⟩
      rw [hG9]
      clear hG9
      refine y_ifnonnull (tgt := 23) E dX1_unwatched_16 (by decide) (fun r16 h16 => ?_) (fun h16 => ?_)
      · refine y_iconst E dX1_unwatched_23 ?_
        refine y_iadd E dX1_unwatched_24 ?_
        refine y_istore_n (j := 1) E dX1_unwatched_25 rfl (Nat.le_of_ble_eq_true rfl) ?_
        refine y_iinc E dX1_unwatched_26 (by rfl) ?_
        refine y_goto (tgt := 4) E dX1_unwatched_29 (by decide) ?_
        refine y_widen (by omega) (by omega) (ih (by omega) _ (by omega) (by show _ = sumI _ ((p : Int) + 1); rw [sumI_s (by omega), hn2]; first | (rw [b2i_dt ((key p).mp h16)]; done) | (rw [b2i_df (fun q => by rw [(key p).mpr q] at h16; cases h16)]; done)))
      · refine y_iconst E dX1_unwatched_19 ?_
        refine y_goto (tgt := 24) E dX1_unwatched_20 (by decide) ?_
        refine y_iadd E dX1_unwatched_24 ?_
        refine y_istore_n (j := 1) E dX1_unwatched_25 rfl (Nat.le_of_ble_eq_true rfl) ?_
        refine y_iinc E dX1_unwatched_26 (by rfl) ?_
        refine y_goto (tgt := 4) E dX1_unwatched_29 (by decide) ?_
        refine y_widen (by omega) (by omega) (ih (by omega) _ (by omega) (by show _ = sumI _ ((p : Int) + 1); rw [sumI_s (by omega), hn2]; first | (rw [b2i_dt ((key p).mp h16)]; done) | (rw [b2i_df (fun q => by rw [(key p).mpr q] at h16; cases h16)]; done)))
  refine y_iconst E dX1_unwatched_0 ?_
  refine y_istore_n (j := 1) E dX1_unwatched_1 rfl (Nat.le_of_ble_eq_true rfl) ?_
  refine y_iconst E dX1_unwatched_2 ?_
  refine y_istore_n (j := 2) E dX1_unwatched_3 rfl (Nat.le_of_ble_eq_true rfl) ?_
  exact y_widen (by omega) (by omega) (loop 0 0 (by omega) (sumI_0 _).symm)
theorem c_X1_endOf_u (hB : gB Γ G) (hx : G x = some (t0, coE C hc fp)) (hI : isST Γ G st (kSt C) S w) (hS : SH w) (hL : LSW w) {t : Nat} (ht : (t : Int) < w 10) : Ct_X1_endOf Γ 4 0 0 [.ref x, .ref (sTa S t), .int (iI 1)] (G) (fun v G' => v = some (.int (iI (farUS w t))) ∧ G' = G) (noX) := by
  refine y_start (lv0 := [some (.ref x), some (.ref (sTa S t)), some (.int (iI 1)), none]) (nm := "endOf") (own := RX1) (by decide +kernel) rfl rfl (by exact Nat.le_of_ble_eq_true rfl) (by rfl) ?_
  intro Z Q E F
  have hst := hI.1
  have hn := hS.nt
  have hSt := hS.t (t := (t : Int)) (by omega) (by omega)
  have htw := isST_t hI ht
  unfold twX twE at htw
  have loop : ∀ p : Int, tw w t 0 ≤ p → p ≤ 60 → (∀ q, tw w t 0 < q → q ≤ p → rchP w t q) → Y Γ Z 0 0 Q G 5 [some (.ref x), some (.ref (sTa S t)), some (.int (iI 1)), some (.int (iI p))] [] := by
    refine loopDown 60 ?_
    intro p ih h0 h1 h2
    refine y_iload_n E dX1_endOf_5 (by rfl) ?_
    refine y_iload_n E dX1_endOf_6 (by rfl) ?_
    refine y_iadd E dX1_endOf_7 ?_
    refine y_callS E dX1_endOf_8 lk_X1_118 (c_X1_isPlace (a := p + 1) (by omega)) (by rfl) (by decide) (by omega) (by omega) rfl (Nat.le_of_ble_eq_true rfl) ?_ (fun _ _ _ h => h.elim)
    rintro _ _ ⟨rfl, hG9⟩
    rw [hG9]
    clear hG9
    refine y_ifd_eq (tgt := 35) E dX1_endOf_11 (by decide) (fun h11 => ?_) (fun h11 => ?_)
    · refine y_iload_n E dX1_endOf_35 (by rfl) ?_
      refine y_ireturn E F rfl rfl dX1_endOf_36 (by omega) (by omega) ⟨rI (the_eq (fun _ _ => farU_u) ⟨h0, h1, h2, fun q => by first | exact h25 q.2 | omega⟩).symm, rfl⟩
    · first | refine y_ald_n E dX1_endOf_14 (by rfl) ?_ | refine y_aload_n E dX1_endOf_14 (by rfl) ?_
      refine y_get E dX1_endOf_15 fl_X1_10_X1 (hx) (by rfl) ?_
      first | refine y_ald_n E dX1_endOf_18 (by rfl) ?_ | refine y_aload_n E dX1_endOf_18 (by rfl) ?_
      refine y_iload_n E dX1_endOf_19 (by rfl) ?_
      refine y_iload_n E dX1_endOf_20 (by rfl) ?_
      refine y_iadd E dX1_endOf_21 ?_
      refine y_callV E dX1_endOf_22 lk_X1_282 (c_X2_reaches hB hI hS hL (p := p + 1) ht (by omega)) (by rfl) (hst) rfl (by decide) (by omega) (by omega) rfl (Nat.le_of_ble_eq_true rfl) ?_ (fun _ _ _ h => h.elim)
      rintro _ _ ⟨rfl, hG9⟩
      rw [hG9]
      clear hG9
      refine y_ifd_eq (tgt := 35) E dX1_endOf_25 (by decide) (fun h25 => ?_) (fun h25 => ?_)
      · refine y_iload_n E dX1_endOf_35 (by rfl) ?_
        refine y_ireturn E F rfl rfl dX1_endOf_36 (by omega) (by omega) ⟨rI (the_eq (fun _ _ => farU_u) ⟨h0, h1, h2, fun q => by first | exact h25 q.2 | omega⟩).symm, rfl⟩
      · refine y_iload_n E dX1_endOf_28 (by rfl) ?_
        refine y_iload_n E dX1_endOf_29 (by rfl) ?_
        refine y_iadd E dX1_endOf_30 ?_
        refine y_istore_n (j := 3) E dX1_endOf_31 rfl (Nat.le_of_ble_eq_true rfl) ?_
        refine y_goto (tgt := 5) E dX1_endOf_32 (by decide) ?_
        refine ih (by omega) (by omega) (by omega) (fun q q1 q2 => ?_)
        by_cases e : q = p + 1
        · subst e
          exact h25
        · exact h2 q q1 (by omega)
  first | refine y_ald_n E dX1_endOf_0 (by rfl) ?_ | refine y_aload_n E dX1_endOf_0 (by rfl) ?_
  refine y_getN E dX1_endOf_1 fl_X1_147_X6 (htw) (by rfl) ?_
  refine y_istore_n (j := 3) E dX1_endOf_4 rfl (Nat.le_of_ble_eq_true rfl) ?_
  exact loop _ (by omega) (by omega) (fun q q1 q2 => by omega)
theorem c_X1_endOf_d (hB : gB Γ G) (hx : G x = some (t0, coE C hc fp)) (hI : isST Γ G st (kSt C) S w) (hS : SH w) (hL : LSW w) {t : Nat} (ht : (t : Int) < w 10) : Ct_X1_endOf Γ 4 0 0 [.ref x, .ref (sTa S t), .int (iI (-1))] (G) (fun v G' => v = some (.int (iI (farDS w t))) ∧ G' = G) (noX) := by
  refine y_start (lv0 := [some (.ref x), some (.ref (sTa S t)), some (.int (iI (-1))), none]) (nm := "endOf") (own := RX1) (by decide +kernel) rfl rfl (by exact Nat.le_of_ble_eq_true rfl) (by rfl) ?_
  intro Z Q E F
  have hst := hI.1
  have hn := hS.nt
  have hSt := hS.t (t := (t : Int)) (by omega) (by omega)
  have htw := isST_t hI ht
  unfold twX twE at htw
  have loop : ∀ p : Int, 0 ≤ p → p ≤ tw w t 0 → (∀ q, p ≤ q → q < tw w t 0 → rchP w t q) → Y Γ Z 0 0 Q G 5 [some (.ref x), some (.ref (sTa S t)), some (.int (iI (-1))), some (.int (iI p))] [] := by
    refine loopUp 0 ?_
    intro p ih h0 h1 h2
    refine y_iload_n E dX1_endOf_5 (by rfl) ?_
    refine y_iload_n E dX1_endOf_6 (by rfl) ?_
    refine y_iadd E dX1_endOf_7 ?_
    refine y_callS E dX1_endOf_8 lk_X1_118 (c_X1_isPlace (a := p + -1) (by omega)) (by rfl) (by decide) (by omega) (by omega) rfl (Nat.le_of_ble_eq_true rfl) ?_ (fun _ _ _ h => h.elim)
    rintro _ _ ⟨rfl, hG9⟩
    rw [hG9]
    clear hG9
    refine y_ifd_eq (tgt := 35) E dX1_endOf_11 (by decide) (fun h11 => ?_) (fun h11 => ?_)
    · refine y_iload_n E dX1_endOf_35 (by rfl) ?_
      refine y_ireturn E F rfl rfl dX1_endOf_36 (by omega) (by omega) ⟨rI (the_eq (fun _ _ => farD_u) ⟨h0, h1, h2, fun q => by first | exact h25 q.2 | omega⟩).symm, rfl⟩
    · first | refine y_ald_n E dX1_endOf_14 (by rfl) ?_ | refine y_aload_n E dX1_endOf_14 (by rfl) ?_
      refine y_get E dX1_endOf_15 fl_X1_10_X1 (hx) (by rfl) ?_
      first | refine y_ald_n E dX1_endOf_18 (by rfl) ?_ | refine y_aload_n E dX1_endOf_18 (by rfl) ?_
      refine y_iload_n E dX1_endOf_19 (by rfl) ?_
      refine y_iload_n E dX1_endOf_20 (by rfl) ?_
      refine y_iadd E dX1_endOf_21 ?_
      refine y_callV E dX1_endOf_22 lk_X1_282 (c_X2_reaches hB hI hS hL (p := p + -1) ht (by omega)) (by rfl) (hst) rfl (by decide) (by omega) (by omega) rfl (Nat.le_of_ble_eq_true rfl) ?_ (fun _ _ _ h => h.elim)
      rintro _ _ ⟨rfl, hG9⟩
      rw [hG9]
      clear hG9
      refine y_ifd_eq (tgt := 35) E dX1_endOf_25 (by decide) (fun h25 => ?_) (fun h25 => ?_)
      · refine y_iload_n E dX1_endOf_35 (by rfl) ?_
        refine y_ireturn E F rfl rfl dX1_endOf_36 (by omega) (by omega) ⟨rI (the_eq (fun _ _ => farD_u) ⟨h0, h1, h2, fun q => by first | exact h25 q.2 | omega⟩).symm, rfl⟩
      · refine y_iload_n E dX1_endOf_28 (by rfl) ?_
        refine y_iload_n E dX1_endOf_29 (by rfl) ?_
        refine y_iadd E dX1_endOf_30 ?_
        refine y_istore_n (j := 3) E dX1_endOf_31 rfl (Nat.le_of_ble_eq_true rfl) ?_
        refine y_goto (tgt := 5) E dX1_endOf_32 (by decide) ?_
        refine ih (by omega) (by omega) (by omega) (fun q q1 q2 => ?_)
        by_cases e : q = p + -1
        · subst e
          exact h25
        · exact h2 q (by omega) q2
  first | refine y_ald_n E dX1_endOf_0 (by rfl) ?_ | refine y_aload_n E dX1_endOf_0 (by rfl) ?_
  refine y_getN E dX1_endOf_1 fl_X1_147_X6 (htw) (by rfl) ?_
  refine y_istore_n (j := 3) E dX1_endOf_4 rfl (Nat.le_of_ble_eq_true rfl) ?_
  exact loop _ (by omega) (by omega) (fun q q1 q2 => by omega)
end X1l
