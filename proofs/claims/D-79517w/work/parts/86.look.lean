/-! ===== State.look ===== -/
section Lk
variable {Γ : yG} {G : yH} {st a : Nat} {S : SA} {w : Int → Int}
def twF (Γ : yG) (S : SA) (w : Int → Int) (t : Nat) : List Value := [.int (iI t), .int (iI (tw w t 0)), .ref (yad Γ (tw w t 1).toNat), .int (iI (tw w t 2)), .int (iI (tw w t 6)), .int (iI (tw w t 7)), va_rf (lnO w S t), .int (iI (tw w t 4)), .int (iI (tw w t 5))]
theorem twX_F (Γ : yG) (S : SA) (w : Int → Int) (t : Nat) : twX Γ S w t = .inr (2, twF Γ S w t) := rfl
theorem twu {w : Int → Int} {t : Nat} {i j v : Int} (h : j ≠ i) : tw (upI w (25 + 8 * (t : Int) + i) v) t j = tw w t j := upI_n _ (by omega)
theorem twus {w : Int → Int} {t : Nat} {i v : Int} : tw (upI w (25 + 8 * (t : Int) + i) v) t i = v := upI_s _ _ _
theorem twF_4 {w : Int → Int} {t : Nat} {v : Int} : twF Γ S (upI w (25 + 8 * (t : Int) + 4) v) t = (twF Γ S w t).set 7 (.int (iI v)) := by
  unfold twF lnO
  rw [twu (j := 0) (by omega), twu (j := 1) (by omega), twu (j := 2) (by omega), twu (j := 6) (by omega), twu (j := 7) (by omega), twu (j := 3) (by omega), twus, twu (j := 5) (by omega)]
  rfl
theorem twF_5 {w : Int → Int} {t : Nat} {v : Int} : twF Γ S (upI w (25 + 8 * (t : Int) + 5) v) t = (twF Γ S w t).set 8 (.int (iI v)) := by
  unfold twF lnO
  rw [twu (j := 0) (by omega), twu (j := 1) (by omega), twu (j := 2) (by omega), twu (j := 6) (by omega), twu (j := 7) (by omega), twu (j := 3) (by omega), twu (j := 4) (by omega), twus]
  rfl
theorem gK_fr {P : Nat × Nat → Prop} {G G1 : yH} (h : gK P G G1) {q : Nat} (hq : G q = none) (v : yT × yE) : gK P G (gset G1 q v) := fun x t e a b => gs_n (g_nn a hq) (h x t e a b)
theorem upI_sw {w : Int → Int} {i j a b : Int} (h : i ≠ j) : upI (upI w i a) j b = upI (upI w j b) i a := by
  funext k
  unfold upI
  by_cases e : k = i
  · have e2 : k ≠ j := fun q => h (e.symm.trans q)
    rw [if_neg e2, if_pos e, if_pos e]
  · simp only [e, if_false]
theorem upI_2 {w : Int → Int} {i a b : Int} : upI (upI w i a) i b = upI w i b := by
  funext k
  unfold upI
  by_cases e : k = i
  · rw [if_pos e, if_pos e]
  · rw [if_neg e, if_neg e, if_neg e]
theorem upI_id {w : Int → Int} {i : Int} : upI w i (w i) = w := by
  funext k
  unfold upI
  by_cases e : k = i
  · rw [if_pos e, e]
  · rw [if_neg e]
set_option maxHeartbeats 4000000
theorem c_isWeak (hI : isST Γ G st a S w) (hS : SH w) (hL : LSW w) {t : Nat} (ht : (t : Int) < w 10) : Ct_X6_isWeak Γ 1 0 0 [.ref (sTa S t)] G (fun v G' => v = some (.int (iI (b2i (dB (powS w t < 5))))) ∧ G' = G) noX := by
  have hn := hS.nt
  have hp := hS.pow (t := (t : Int)) (by omega) (by omega)
  have htw := isST_t hI ht
  unfold twX at htw
  by_cases h3 : tw w t 3 < 0
  · rw [lnO_n h3] at htw
    refine Ct_mono (c_X6_isWeak_n htw) ?_ (fun _ _ q => q)
    rintro v G' ⟨rfl, rfl⟩
    have : powS w t = -1 := by unfold powS; rw [if_pos h3]
    exact ⟨by rw [dB_t (by omega)], rfl⟩
  · rw [lnO_s (by omega)] at htw
    have hln := isST_tl hI hL ht (by omega)
    refine Ct_mono (c_X6_isWeak_s htw hln (by omega)) ?_ (fun _ _ q => q)
    rintro v G' ⟨rfl, rfl⟩
    exact ⟨by rw [dB_d], rfl⟩
theorem gOK_t {G : yH} (h : gOK G) {a : Nat} {e : yE} {st j : Nat} (hs : 0 < st) : gOK (gset G a (some (st, j), e)) := gOK_set h ⟨fun q => by cases q; omega, fun q => by cases q; omega⟩
noncomputable def lokN (w : Int → Int) : Int := (stlS w 2 - w 2) + (stlS w 1 - w 1)
theorem c_X2_look (hs0 : 0 < st) (hB : gB Γ G) (hI : isST Γ G st a S w) (hS : SH w) (hL : LSW w) (hU : UT w) (hO : gOK G) : Ct_X2_look Γ 9 1090 2344 [.ref a] (G) (fun v G' => v = some (.int (iI (lokN w))) ∧ isST Γ G' st a S (stlS w) ∧ gK (fun τ => τ = (st, 0) ∨ τ = (st, 5)) G G' ∧ gOK G') (noX) := by
  refine y_start (lv0 := [some (.ref a), none, none, none]) (nm := "look") (own := RX2) (by decide +kernel) rfl rfl (by exact Nat.le_of_ble_eq_true rfl) (by rfl) ?_
  intro Z Q E F
  have hst := hI.1
  have hn := hS.nt
  have hlen := twL_len S w
  have hal := hI.2.1
  obtain ⟨fal, hac⟩ := hal.c
  obtain ⟨s1S, s1U, s1n⟩ := stl1_ok hS hU
  have s11 : stl1 w 1 = w 1 := (it1_ok hS (w 10) hn.1 hn.2).2 1 (by omega) (fun t t0 t1 => by omega)
  have hPn : ∀ j, j ≠ 0 → j ≠ 5 → ¬ ((st, j) = (st, 0) ∨ (st, j) = (st, 5)) := fun j h0 h5 q => by rcases q with q | q <;> cases q <;> omega
  have ph2 : ∀ (n : Nat) (G1 : yH) (z : Int → Int) (c : Int), n ≤ 8 → SH z → UT z → LSW z → isST Γ G1 st a S (upI z 1 (w 1)) → c = z 1 - w 1 → z 2 = stl1 w 2 → litN z ≤ n → stlF n z = stlS w → gK (fun τ => τ = (st, 0) ∨ τ = (st, 5)) G G1 → gOK G1 → Y Γ Z (1 + 121 * (9 - n)) (4 + 260 * (9 - n)) Q G1 71 [some (.ref a), some (.int (iI (stl1 w 2 - w 2))), some (.int (iI c)), some (va_rf (twO S (misS z)))] [] := by
    intro n
    have tail : ∀ (n : Nat) (G1 : yH) (z : Int → Int) (c : Int) (l3 : Option Value), SH z → isST Γ G1 st a S (upI z 1 (w 1)) → c = z 1 - w 1 → z 2 = stl1 w 2 → z = stlS w → gK (fun τ => τ = (st, 0) ∨ τ = (st, 5)) G G1 → gOK G1 → n ≤ 9 → Y Γ Z (1 + 121 * n) (4 + 260 * n) Q G1 91 [some (.ref a), some (.int (iI (stl1 w 2 - w 2))), some (.int (iI c)), l3] [] := by
      intro n G1 z c l3 hz hI1 hc hz2 hfin hK hO1 hn9
      have hst1 := hI1.1
      have hag : ag z (upI z 1 (w 1)) := ag_s (ag_up (by omega))
      have hB1 := hB.kk hK
      first | refine y_ald_n E dX2_look_91 (by rfl) ?_ | refine y_aload_n E dX2_look_91 (by rfl) ?_
      refine y_dup E dX2_look_92 rfl ?_
      refine y_get E dX2_look_93 fl_X2_79_X2 (hst1) (by rfl) ?_
      refine y_iload_n E dX2_look_96 (by rfl) ?_
      refine y_iadd E dX2_look_97 ?_
      refine y_put E dX2_look_98 fl_X2_79_X2 fw_X2_5 rfl (by rfl) (hst1) (Nat.le_of_ble_eq_true rfl) ?_
      refine y_heap (show _ = gset G1 a (some (st, 0), stE S z) from ?_) ?_
      · unfold stE
        rw [upI_n (j := 0) _ (by omega), upI_n (j := 2) _ (by omega), upI_s]
        rw [show w 1 + c = z 1 by omega]
        rfl
      obtain ⟨hI3, hk3, -⟩ := isST_cset hB1 hI1 (ag_SH hag hz) (v := z) hag
      have hK3 := gK_t hK (gK_m hk3 (fun τ q => Or.inl q))
      have hO3 := gOK_t (j := 0) (a := a) (e := stE S z) hO1 hs0
      refine y_iload_n E dX2_look_101 (by rfl) ?_
      refine y_iload_n E dX2_look_102 (by rfl) ?_
      refine y_iadd E dX2_look_103 ?_
      refine y_ireturn E F rfl rfl dX2_look_104 (by omega) (by omega) ⟨rI (by unfold lokN; rw [← hfin]; omega), by rw [← hfin]; exact hI3, hK3, hO3⟩
    induction n with
    | zero =>
      intro G1 z c hn8 hz hzu hzl hI1 hc hz2 hl hfin hK hO1
      have hm := mis_lit0 hz (by omega)
      rw [twO_n hm]
      first | refine y_ald_n E dX2_look_71 (by rfl) ?_ | refine y_aload_n E dX2_look_71 (by rfl) ?_
      refine y_ifnull_n (tgt := 91) E dX2_look_72 (by decide) ?_
      exact tail 9 G1 z c _ hz hI1 hc hz2 hfin hK hO1 (by omega)
    | succ n ih =>
      intro G1 z c hn8 hz hzu hzl hI1 hc hz2 hl hfin hK hO1
      have hnz := hz.nt
      by_cases hm : misS z < 0
      · rw [twO_n hm]
        first | refine y_ald_n E dX2_look_71 (by rfl) ?_ | refine y_aload_n E dX2_look_71 (by rfl) ?_
        refine y_ifnull_n (tgt := 91) E dX2_look_72 (by decide) ?_
        exact y_widen (by omega) (by omega) (tail 9 G1 z c _ hz hI1 hc hz2 (by rw [← hfin]; simp only [stlF]; rw [if_pos hm]) hK hO1 (by omega))
      · have hmi := misS_in hnz.1 (show 0 ≤ misS z by omega)
        have hmb := misS_b hz
        obtain ⟨d1, d2, d3, d4⟩ := stp2_ok hz hzu (by omega)
        rw [twO_s (by omega)]
        have hag : ag z (upI z 1 (w 1)) := ag_s (ag_up (by omega))
        have hyS := ag_SH hag hz
        have y10 : (upI z 1 (w 1)) 10 = z 10 := upI_n _ (by omega)
        have hiw := isST_t hI1 (t := (misS z).toNat) (by omega)
        rw [twX_F] at hiw
        have hB1 := hB.kk hK
        have em : (((misS z).toNat : Nat) : Int) = misS z := by omega
        obtain ⟨hI3, hk3, -⟩ := isST_tset hB1 hI1 hyS (t := (misS z).toNat) (by omega) (v := upI (upI z 1 (w 1)) (25 + 8 * (((misS z).toNat : Nat) : Int) + 4) 0) (fun k hk => upI_n _ (by omega))
        have hK3 := gK_t hK (gK_m hk3 (fun τ q => Or.inr q))
        have hO3 := gOK_t (j := 5) (a := sTa S (misS z).toNat) (e := twX Γ S (upI (upI z 1 (w 1)) (25 + 8 * (((misS z).toNat : Nat) : Int) + 4) 0) (misS z).toNat) hO1 hs0
        have er : upI (upI z 1 (w 1)) (25 + 8 * (((misS z).toNat : Nat) : Int) + 4) 0 = upI (stp2 z) 1 (w 1) := by
          rw [em]
          unfold stp2
          rw [upI_2, upI_sw (by omega)]
        rw [er] at hI3 hK3 hO3
        have hag2 : ag (stp2 z) (upI (stp2 z) 1 (w 1)) := ag_s (ag_up (by omega))
        have hzl2 : LSW (stp2 z) := fun t t0 t1 => by
          rw [d3] at t1
          have e3 : tw (stp2 z) t 3 = tw z t 3 := stp2_n (by omega) (by omega)
          rw [e3, stp2_n (by omega) (by omega)]
          exact hzl t t0 t1
        have hst3 := hI3.1
        have hB3 := hB.kk hK3
        have hms : misS (upI (stp2 z) 1 (w 1)) = misS (stp2 z) := (ag_mis hag2 d1).symm
        have e1 : stp2 z 1 = z 1 + 1 := by unfold stp2; rw [upI_s]
        have e2 : stp2 z 2 = z 2 := stp2_n (by omega) (by omega)
        first | refine y_ald_n E dX2_look_71 (by rfl) ?_ | refine y_aload_n E dX2_look_71 (by rfl) ?_
        refine y_ifnull_r E dX2_look_72 ?_
        first | refine y_ald_n E dX2_look_75 (by rfl) ?_ | refine y_aload_n E dX2_look_75 (by rfl) ?_
        refine y_iconst E dX2_look_76 ?_
        refine y_putN E dX2_look_77 fl_X2_133_X6 fw_X6_7 (nar_z (by omega)) (fit_z (by omega)) (hiw) (Nat.le_of_ble_eq_true rfl) ?_
        refine y_heap (show _ = gset G1 (sTa S (misS z).toNat) (some (st, 5), twX Γ S (upI (stp2 z) 1 (w 1)) (misS z).toNat) from by rw [← er, twX_F, twF_4]) ?_
        refine y_iinc E dX2_look_80 (by rfl) ?_
        first | refine y_ald_n E dX2_look_83 (by rfl) ?_ | refine y_aload_n E dX2_look_83 (by rfl) ?_
        refine y_callV E dX2_look_84 lk_X2_145 (c_X2_toHide hB3 hI3 (ag_SH hag2 d1) (ag_LS hag2 hzl2) (ag_UT hag2 d2) hO3) (by rfl) (hst3) rfl (by decide) (by omega) (by omega) rfl (Nat.le_of_ble_eq_true rfl) ?_ (fun _ _ _ h => h.elim)
        rintro _ _ ⟨rfl, hG9⟩
        rw [hG9]
        clear hG9
        first | refine y_ast_n (j := 3) E dX2_look_87 rfl (Nat.le_of_ble_eq_true rfl) ?_ | refine y_astore_n (j := 3) E dX2_look_87 rfl (Nat.le_of_ble_eq_true rfl) ?_ | refine y_astore_n (j := 3) (r := none) E dX2_look_87 rfl (Nat.le_of_ble_eq_true rfl) ?_
        refine y_goto (tgt := 71) E dX2_look_88 (by decide) ?_
        rw [hms]
        exact y_widen (by omega) (by omega) (ih _ (stp2 z) _ (by omega) d1 d2 hzl2 hI3 (by omega) (by omega) (by omega) (by rw [← hfin]; simp only [stlF]; rw [if_neg hm]) hK3 hO3)
  have P54 : ∀ (G1 : yH) (x : Int → Int) (n : Int) (l2 l3 : Option Value), x = stl1 w → gK (fun τ => τ = (st, 0) ∨ τ = (st, 5)) G G1 → gOK G1 → isST Γ G1 st a S (upI x 2 (w 2)) → n = x 2 - w 2 → Y Γ Z 1 4 Q G1 54 [some (.ref a), some (.int (iI n)), l2, l3] [] := by
    intro G1 x n l2 l3 hx hK hO1 hI1 hn2
    have hst1 := hI1.1
    have hag : ag x (upI x 2 (w 2)) := ag_s (ag_up (by omega))
    rw [← hx] at s1S s1U s1n s11
    have hB1 := hB.kk hK
    have x11 : x 11 = w 11 := by rw [hx]; exact (it1_ok hS (w 10) hn.1 hn.2).2 11 (by omega) (fun t t0 t1 => by omega)
    have hxL : LSW x := fun t t0 t1 => by
      have e3 : tw x t 3 = tw w t 3 := by rw [hx]; exact (it1_ok hS (w 10) hn.1 hn.2).2 _ (by omega) (fun s s0 s1 => by omega)
      rw [e3, x11]
      exact hL t t0 (by omega)
    first | refine y_ald_n E dX2_look_54 (by rfl) ?_ | refine y_aload_n E dX2_look_54 (by rfl) ?_
    refine y_dup E dX2_look_55 rfl ?_
    refine y_get E dX2_look_56 fl_X2_82_X2 (hst1) (by rfl) ?_
    refine y_iload_n E dX2_look_59 (by rfl) ?_
    refine y_iadd E dX2_look_60 ?_
    refine y_put E dX2_look_61 fl_X2_82_X2 fw_X2_6 rfl (by rfl) (hst1) (Nat.le_of_ble_eq_true rfl) ?_
    refine y_heap (show _ = gset G1 a (some (st, 0), stE S x) from ?_) ?_
    · unfold stE
      rw [upI_n (j := 0) _ (by omega), upI_n (j := 1) _ (by omega), upI_s]
      rw [show w 2 + n = x 2 by omega]
      rfl
    obtain ⟨hI3, hk3, -⟩ := isST_cset hB1 hI1 (ag_SH hag s1S) (v := x) hag
    have hK3 := gK_t hK (gK_m hk3 (fun τ q => Or.inl q))
    have hO3 := gOK_t (j := 0) (a := a) (e := stE S x) hO1 hs0
    have hst3 := hI3.1
    have hB3 := hB.kk hK3
    refine y_iconst E dX2_look_64 ?_
    refine y_istore_n (j := 2) E dX2_look_65 rfl (Nat.le_of_ble_eq_true rfl) ?_
    first | refine y_ald_n E dX2_look_66 (by rfl) ?_ | refine y_aload_n E dX2_look_66 (by rfl) ?_
    refine y_callV E dX2_look_67 lk_X2_145 (c_X2_toHide hB3 hI3 s1S hxL s1U hO3) (by rfl) (hst3) rfl (by decide) (by omega) (by omega) rfl (Nat.le_of_ble_eq_true rfl) ?_ (fun _ _ _ h => h.elim)
    rintro _ _ ⟨rfl, hG9⟩
    rw [hG9]
    clear hG9
    first | refine y_ast_n (j := 3) E dX2_look_70 rfl (Nat.le_of_ble_eq_true rfl) ?_ | refine y_astore_n (j := 3) E dX2_look_70 rfl (Nat.le_of_ble_eq_true rfl) ?_ | refine y_astore_n (j := 3) (r := none) E dX2_look_70 rfl (Nat.le_of_ble_eq_true rfl) ?_
    rw [hn2, hx]
    rw [hx] at hI3 s1S s1U hxL s11
    exact y_widen (by omega) (by omega) (ph2 8 _ (stl1 w) 0 (by omega) s1S s1U hxL (by rw [← s11, upI_id]; exact hI3) (by omega) rfl (by have := s1S.lit; omega) rfl (by rw [← hx]; exact hK3) (by rw [← hx]; exact hO3))
  have ph1 : ∀ it, G it = none → ∀ i : Nat, ∀ (G1 : yH) (x : Int → Int) (n : Int) (l3 : Option Value), x = itI st1 i w → gK (fun τ => τ = (st, 0) ∨ τ = (st, 5)) G G1 → gOK G1 → isIT Γ G1 it (sTl S) (st, 1) (twL S w) i → isST Γ G1 st a S (upI x 2 (w 2)) → n = x 2 - w 2 → (i : Int) ≤ w 10 → Y Γ Z 1 4 Q G1 10 [some (.ref a), some (.int (iI n)), some (.ref it), l3] [] := by
    intro it h0
    refine loopDownN (w 10).toNat ?_
    intro i ih G1 x n l3 hxe hK hO1 hit hI1 hn2 hi
    have hxa := it1_ok hS i (by omega) (by omega)
    rw [← hxe] at hxa
    obtain ⟨hx, hxk⟩ := hxa
    have hag : ag (upI x 2 (w 2)) x := ag_up (by omega)
    have hyS := ag_SH (ag_s hag) hx
    have hyL : LSW (upI x 2 (w 2)) := ag_LS (ag_s hag) (fun t t0 t1 => by
      have e10 : x 10 = w 10 := hxk 10 (by omega) (fun s s0 s1 => by omega)
      have e3 : tw x t 3 = tw w t 3 := hxk _ (by omega) (fun s s0 s1 => by omega)
      rw [e3, hxk 11 (by omega) (fun s s0 s1 => by omega)]
      exact hL t t0 (by omega))
    have y10 : (upI x 2 (w 2)) 10 = w 10 := (upI_n _ (by omega)).trans (hxk 10 (by omega) (fun s s0 s1 => by omega))
    obtain ⟨fs, hitc⟩ := hit.c
    have hst1 := hI1.1
    have hSi := fun h : (i : Int) < 8 => hyS.t (t := (i : Int)) (by omega) h
    first | refine y_ald_n E dX2_look_10 (by rfl) ?_ | refine y_aload_n E dX2_look_10 (by rfl) ?_
    refine y_callF E dX2_look_11 lk_X2_37_J24 (c_it_has hit (by omega)) (by rfl) (hitc) rfl (by decide) (by omega) (by omega) rfl (Nat.le_of_ble_eq_true rfl) ?_ (fun _ _ _ h => h.elim)
    rintro _ _ ⟨rfl, hG9⟩
    rw [hG9]
    clear hG9
    refine y_ifd_eq (tgt := 54) E dX2_look_16 (by decide) (fun h16 => ?_) (fun h16 => ?_)
    · have hxs : x = stl1 w := by rw [hxe, show (i : Int) = w 10 by omega]; rfl
      have hst1 := hI1.1
      exact P54 G1 x n _ _ hxs hK hO1 hI1 hn2
    · first | refine y_ald_n E dX2_look_19 (by rfl) ?_ | refine y_aload_n E dX2_look_19 (by rfl) ?_
      refine y_callF E dX2_look_20 lk_X2_43_J24 (c_it_next hit (twL_at (by omega))) (by rfl) (hitc) rfl (by decide) (by omega) (by omega) rfl (Nat.le_of_ble_eq_true rfl) ?_ (fun _ _ _ h => h.elim)
      rintro _ G2 ⟨rfl, hit2, vv, hG9⟩
      have hk2 : gK (· = yT0) G1 G2 := by rw [hG9]; exact gK_w _ hitc rfl
      have hK2 : gK (fun τ => τ = (st, 0) ∨ τ = (st, 5)) G G2 := by rw [hG9]; exact gK_fr hK h0 _
      have hO2 : gOK G2 := by rw [hG9]; exact gOK_it hO1
      have hB1 : gB Γ G1 := hB.kk hK
      have hI2 := hI1.kk hB1 hk2 (fun j q => by cases q; omega)
      have hB2 := hB.kk hK2
      have hiw := isST_t hI2 (t := i) (by omega)
      rw [twX_F] at hiw
      have hSi := hSi (by omega)
      refine y_ccast E dX2_look_25 q1008 (hiw) rfl (Or.inl rfl) ?_
      first | refine y_ast_n (j := 3) E dX2_look_28 rfl (Nat.le_of_ble_eq_true rfl) ?_ | refine y_astore_n (j := 3) E dX2_look_28 rfl (Nat.le_of_ble_eq_true rfl) ?_ | refine y_astore_n (j := 3) (r := none) E dX2_look_28 rfl (Nat.le_of_ble_eq_true rfl) ?_
      first | refine y_ald_n E dX2_look_29 (by rfl) ?_ | refine y_aload_n E dX2_look_29 (by rfl) ?_
      refine y_getN E dX2_look_30 fl_X2_133_X6 (hiw) (by rfl) ?_
      refine y_if_eq (tgt := 51) E dX2_look_33 (by decide) (by omega) (fun h33 => ?_) (fun h33 => ?_)
      · refine y_goto (tgt := 10) E dX2_look_51 (by decide) ?_
        have ei4 : tw (upI x 2 (w 2)) i 4 = tw x i 4 := ag_tw hag (by omega) (by omega)
        have eip : powS (upI x 2 (w 2)) i = powS x i := ag_pow hag (by omega)
        first
          | (refine ih (by omega) _ (upI (upI x (25 + 8 * (i : Int) + 4) 0) 2 (x 2 + 1)) _ _ ?_ hK3 hO3 hit3 ?_ ?_ (by omega)
             · show _ = itI st1 ((i : Int) + 1) w
               rw [itI_s (by omega), ← hxe]
               unfold st1
               rw [if_pos (by omega)]
             · rw [show upI (upI (upI x (25 + 8 * (i : Int) + 4) 0) 2 (x 2 + 1)) 2 (w 2) = upI (upI x 2 (w 2)) (25 + 8 * (i : Int) + 4) 0 from by rw [upI_2, upI_sw (by omega)]]
               exact hI3
             · rw [upI_s]
               omega)
          | (refine ih (by omega) _ x _ _ ?_ hK2 hO2 hit2 hI2 hn2 (by omega)
             show _ = itI st1 ((i : Int) + 1) w
             rw [itI_s (by omega), ← hxe]
             unfold st1
             rw [if_neg (by omega)])
      · first | refine y_ald_n E dX2_look_36 (by rfl) ?_ | refine y_aload_n E dX2_look_36 (by rfl) ?_
        refine y_callV E dX2_look_37 lk_X2_142 (c_isWeak hI2 hyS hyL (t := i) (by omega)) (by rfl) (hiw) rfl (by decide) (by omega) (by omega) rfl (Nat.le_of_ble_eq_true rfl) ?_ (fun _ _ _ h => h.elim)
        rintro _ _ ⟨rfl, hG9⟩
        rw [hG9]
        clear hG9
        refine y_ifd_eq (tgt := 51) E dX2_look_40 (by decide) (fun h40 => ?_) (fun h40 => ?_)
        · refine y_goto (tgt := 10) E dX2_look_51 (by decide) ?_
          have ei4 : tw (upI x 2 (w 2)) i 4 = tw x i 4 := ag_tw hag (by omega) (by omega)
          have eip : powS (upI x 2 (w 2)) i = powS x i := ag_pow hag (by omega)
          first
            | (refine ih (by omega) _ (upI (upI x (25 + 8 * (i : Int) + 4) 0) 2 (x 2 + 1)) _ _ ?_ hK3 hO3 hit3 ?_ ?_ (by omega)
               · show _ = itI st1 ((i : Int) + 1) w
                 rw [itI_s (by omega), ← hxe]
                 unfold st1
                 rw [if_pos (by omega)]
               · rw [show upI (upI (upI x (25 + 8 * (i : Int) + 4) 0) 2 (x 2 + 1)) 2 (w 2) = upI (upI x 2 (w 2)) (25 + 8 * (i : Int) + 4) 0 from by rw [upI_2, upI_sw (by omega)]]
                 exact hI3
               · rw [upI_s]
                 omega)
            | (refine ih (by omega) _ x _ _ ?_ hK2 hO2 hit2 hI2 hn2 (by omega)
               show _ = itI st1 ((i : Int) + 1) w
               rw [itI_s (by omega), ← hxe]
               unfold st1
               rw [if_neg (by omega)])
        · first | refine y_ald_n E dX2_look_43 (by rfl) ?_ | refine y_aload_n E dX2_look_43 (by rfl) ?_
          refine y_iconst E dX2_look_44 ?_
          refine y_putN E dX2_look_45 fl_X2_133_X6 fw_X6_7 (nar_z (by omega)) (fit_z (by omega)) (hiw) (Nat.le_of_ble_eq_true rfl) ?_
          refine y_heap (show _ = gset G2 (sTa S i) (some (st, 5), twX Γ S (upI (upI x 2 (w 2)) (25 + 8 * (i : Int) + 4) 0) i) from by rw [twX_F, twF_4]) ?_
          obtain ⟨hI3, hk3, -⟩ := isST_tset hB2 hI2 hyS (t := i) (by omega) (v := upI (upI x 2 (w 2)) (25 + 8 * (i : Int) + 4) 0) (fun k hk => upI_n _ (by omega))
          have hK3 := gK_t hK2 (gK_m hk3 (fun τ q => Or.inr q))
          have hO3 := gOK_t (j := 5) (a := sTa S i) (e := twX Γ S (upI (upI x 2 (w 2)) (25 + 8 * (i : Int) + 4) 0) i) hO2 hs0
          have hit3 := hit2.kk hk3 (fun q => by cases q) (fun q => by cases q)
          refine y_iinc E dX2_look_48 (by rfl) ?_
          refine y_goto (tgt := 10) E dX2_look_51 (by decide) ?_
          have ei4 : tw (upI x 2 (w 2)) i 4 = tw x i 4 := ag_tw hag (by omega) (by omega)
          have eip : powS (upI x 2 (w 2)) i = powS x i := ag_pow hag (by omega)
          first
            | (refine ih (by omega) _ (upI (upI x (25 + 8 * (i : Int) + 4) 0) 2 (x 2 + 1)) _ _ ?_ hK3 hO3 hit3 ?_ ?_ (by omega)
               · show _ = itI st1 ((i : Int) + 1) w
                 rw [itI_s (by omega), ← hxe]
                 unfold st1
                 rw [if_pos (by omega)]
               · rw [show upI (upI (upI x (25 + 8 * (i : Int) + 4) 0) 2 (x 2 + 1)) 2 (w 2) = upI (upI x 2 (w 2)) (25 + 8 * (i : Int) + 4) 0 from by rw [upI_2, upI_sw (by omega)]]
                 exact hI3
               · rw [upI_s]
                 omega)
            | (refine ih (by omega) _ x _ _ ?_ hK2 hO2 hit2 hI2 hn2 (by omega)
               show _ = itI st1 ((i : Int) + 1) w
               rw [itI_s (by omega), ← hxe]
               unfold st1
               rw [if_neg (by omega)])
  refine y_iconst E dX2_look_0 ?_
  refine y_istore_n (j := 1) E dX2_look_1 rfl (Nat.le_of_ble_eq_true rfl) ?_
  first | refine y_ald_n E dX2_look_2 (by rfl) ?_ | refine y_aload_n E dX2_look_2 (by rfl) ?_
  refine y_get E dX2_look_3 fl_X2_12_X2 (hst) (by rfl) ?_
  refine y_callV E dX2_look_6 lk_X2_33 (c_it_new hB hal) (by rfl) (hac) rfl (by decide) (by omega) (by omega) rfl (Nat.le_of_ble_eq_true rfl) ?_ (fun _ _ _ h => h.elim)
  rintro _ G1 ⟨it, vv, rfl, h0, hit, hG9⟩
  first | refine y_ast_n (j := 2) E dX2_look_9 rfl (Nat.le_of_ble_eq_true rfl) ?_ | refine y_astore_n (j := 2) E dX2_look_9 rfl (Nat.le_of_ble_eq_true rfl) ?_ | refine y_astore_n (j := 2) (r := none) E dX2_look_9 rfl (Nat.le_of_ble_eq_true rfl) ?_
  have hk1 : gExt G G1 := by rw [hG9]; exact gExt_n h0
  exact ph1 it h0 0 G1 w 0 _ (itI_0 _ _).symm (gK_e hk1) (by rw [hG9]; exact gOK_it hO) hit (by rw [upI_id]; exact hI.e hB hk1) (by omega) (by omega)
end Lk
