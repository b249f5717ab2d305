/-! ===== what a call may leave is forgotten; State.fit ===== -/
section Rs
/-- of the new heap, what has the tag τ, what was there before, and what is read only -/
noncomputable def rs (τ : Nat × Nat) (G G' : yH) : yH := fun q => match G' q with
  | some (some t, e) => @ite _ (t = τ ∨ G q = some (some t, e)) (Classical.propDecidable _) (some (some t, e)) none
  | r => r
theorem rs_e {τ : Nat × Nat} {G G' : yH} : gExt (rs τ G G') G' := fun q v h => by
  unfold rs at h
  split at h
  · rename_i t e he
    split at h
    · rw [he]
      exact h
    · cases h
  · rename_i h2
    exact h
theorem rs_K {τ : Nat × Nat} {G G' : yH} (h : gK (· = τ) G G') : gK (· = τ) G (rs τ G G') := fun q t e a b => by
  have := h q t e a b
  unfold rs
  rw [this]
  cases t with
  | none => rfl
  | some t => exact if_pos (Or.inr a)
theorem rs_T {τ : Nat × Nat} {G G' : yH} : gK (fun t => t ≠ τ) G' (rs τ G G') := fun q t e a b => by
  unfold rs
  rw [a]
  cases t with
  | none => rfl
  | some t => exact if_pos (Or.inl (Classical.byContradiction fun z => b t rfl z))
theorem rs_F {τ σ : Nat × Nat} {G G' : yH} (hs : gF σ G) (hn : τ ≠ σ) : gF σ (rs τ G G') := fun q e z => by
  unfold rs at z
  split at z
  · rename_i t e2 he
    split at z
    · rename_i h
      rcases h with h | h
      · cases z
        exact hn h.symm
      · cases z
        exact hs q _ h
    · cases z
  · rename_i h2
    exact h2 _ _ z
theorem rs_all {τ : Nat × Nat} {G G' : yH} (h : gK (· = τ) G G') (hO : gOK G) (hn : τ ≠ (0, 98) ∧ τ ≠ (0, 97)) : ∃ G1, gExt G1 G' ∧ gK (· = τ) G G1 ∧ gK (fun t => t ≠ τ) G' G1 ∧ gOK G1 := ⟨rs τ G G', rs_e, rs_K h, rs_T, rs_F hO.1 hn.1, rs_F hO.2 hn.2⟩
end Rs
section Ft
variable {Γ : yG} {G : yH} {st a : Nat} {S : SA} {w : Int → Int}
theorem gK_refl {P : Nat × Nat → Prop} {G : yH} : gK P G G := fun _ _ _ a _ => a
/-- the store changes, and where lenses are -/
theorem isST_sset (hB : gB Γ G) (h : isST Γ G st a S w) {G' : yH} {v : Int → Int} (hk : gK (· = (st, 3)) G G') (hl : isLL G' (st, 3) (sSl S) ((soL S v).map some)) (hv : ∀ k, k < 12 ∨ (25 ≤ k ∧ k < 89) → v k = w k) (h8 : w 10 ≤ 8) (hx : ∀ l : Nat, (l : Int) < w 11 → lnX v l = lnX w l) : isST Γ G' st a S v := by
  obtain ⟨h1, h2, h3, h4, h5, h6, h7⟩ := h
  have e10 : v 10 = w 10 := hv 10 (by omega)
  have e11 : v 11 = w 11 := hv 11 (by omega)
  refine ⟨?_, ?_, ?_, hl, ?_, fun u hu => ?_, fun m hm => ?_⟩
  · have := hk.at h1 (by simp)
    rw [this]
    unfold stE
    rw [hv 0 (by omega), hv 1 (by omega), hv 2 (by omega)]
  · have : twL S v = twL S w := by unfold twL; rw [e10]
    rw [this]
    exact h2.kk hB hk (by simp)
  · have : lnL S v = lnL S w := by unfold lnL; rw [e11]
    rw [this]
    exact h3.kk hB hk (by simp)
  · have := hk.at h5 (by simp)
    rw [this, fgF_c (fun k k0 k1 => hv k (by omega))]
  · rw [e10] at hu
    rw [show twX Γ S v u = twX Γ S w u from twX_c (fun j j0 j1 => hv _ (by omega))]
    exact hk.at (h6 u hu) (by simp)
  · rw [e11] at hm
    rw [hx m hm]
    exact hk.at (h7 m hm) (by simp)
theorem soL_lv (h0 : 0 < w 12) (h1 : w 12 ≤ 12) : soL S w = sLa S (w 13).toNat :: soL S (lvS w 0) := by
  apply List.ext_getElem?
  intro i
  have e12 := lvS_12 (w := w) (p := 0) h0
  by_cases hi : (i : Int) < w 12
  · rw [soL_at hi]
    cases i with
    | zero => rfl
    | succ i =>
      rw [List.getElem?_cons_succ, soL_at (by omega)]
      have : lvS w 0 (13 + (i : Int)) = w (13 + ((i + 1 : Nat) : Int)) := by
        unfold lvS shf
        rw [upI_n _ (by omega), upI_n _ (by omega), if_pos (by omega), show 13 + (i : Int) + 1 = 13 + ((i + 1 : Nat) : Int) by omega]
      rw [this]
  · rw [List.getElem?_eq_none (by rw [soL_len]; omega), List.getElem?_eq_none (by rw [List.length_cons, soL_len]; omega)]
theorem soL_sto {m : Int} (h0 : 0 ≤ w 12) (h1 : w 12 < 12) (hm : 0 ≤ m) : soL S (stoS w m) = soL S w ++ [sLa S m.toNat] := by
  have e12 : stoS w m 12 = w 12 + 1 := by unfold stoS; rw [upI_n _ (by omega), upI_s]
  unfold soL
  rw [e12, show (w 12 + 1).toNat = (w 12).toNat + 1 by omega, List.range_succ, List.map_append]
  congr 1
  · apply List.map_congr_left
    intro k hk
    rw [List.mem_range] at hk
    rw [show stoS w m (13 + (k : Int)) = w (13 + (k : Int)) from by unfold stoS; rw [upI_n _ (by omega), upI_n _ (by omega), upI_n _ (by omega)]]
  · rw [List.map_singleton, show stoS w m (13 + ((w 12).toNat : Int)) = m from by unfold stoS; rw [upI_n _ (by omega), upI_n _ (by omega), show 13 + ((w 12).toNat : Int) = 13 + w 12 by omega, upI_s]]
theorem twF_3 {t : Nat} {v : Int} (hv : 0 ≤ v) : twF Γ S (upI w (25 + 8 * (t : Int) + 3) v) t = (twF Γ S w t).set 6 (.ref (sLa S v.toNat)) := by
  unfold twF lnO
  rw [twu (j := 0) (by omega), twu (j := 1) (by omega), twu (j := 2) (by omega), twu (j := 6) (by omega), twu (j := 7) (by omega), twu (j := 4) (by omega), twus, twu (j := 5) (by omega), if_neg (by omega)]
  rfl
theorem lnX_w {l m : Nat} {v : Int} (h : l = m → (v = -2 ↔ lw w l 2 = -2)) : lnX (upI w (89 + 3 * (m : Int) + 2) v) l = lnX w l := by
  unfold lnX lw at *
  rw [upI_n (j := 89 + 3 * (l : Int) + 1) _ (by omega), upI_n (j := 89 + 3 * (l : Int) + 0) _ (by omega)]
  by_cases e : l = m
  · have := h e
    subst e
    rw [upI_s, show decide (v = -2) = decide (w (89 + 3 * (l : Int) + 2) = -2) from decide_eq_decide.mpr this]
  · rw [upI_n _ (by omega)]
theorem lnX_sto {m : Int} (hm : 0 ≤ m) (hn : 0 ≤ w 12 ∧ w 12 < 12) (h : lw w m 2 ≠ -2) (l : Nat) : lnX (stoS w m) l = lnX w l := by
  have e1 : lnX (upI (upI w (13 + w 12) m) 12 (w 12 + 1)) l = lnX w l := lnX_c (fun j j0 j1 => by unfold lw; rw [upI_n _ (by omega), upI_n _ (by omega)])
  have := lnX_w (w := upI (upI w (13 + w 12) m) 12 (w 12 + 1)) (l := l) (m := m.toNat) (v := -1) (fun e => ?_)
  · rw [show ((m.toNat : Nat) : Int) = m by omega] at this
    unfold stoS
    rw [this, e1]
  · have el : (l : Int) = m := by omega
    unfold lw at h ⊢
    rw [el, upI_n _ (by omega), upI_n _ (by omega)]
    omega
set_option maxHeartbeats 4000000
theorem c_X2_fit (hs0 : 0 < st) (hB : gB Γ G) (hI : isST Γ G st a S w) (hS : SH w) (hL : LSW w) (hW : SW w) (hO : gOK G) {t : Nat} (ht : (t : Int) < w 10) (hs : 0 < w 12) (hq1 : lw w (w 13) 2 ≠ -2) (hq2 : 0 ≤ tw w t 3 → lw w (tw w t 3) 2 ≠ -2) : Ct_X2_fit Γ 4 1 3 [.ref a, .ref (sTa S t)] (G) (fun v G' => v = some (.int (iI (w 13))) ∧ isST Γ G' st a S (fitS w t) ∧ gK (fun τ => τ = (st, 3) ∨ τ = (st, 5)) G G' ∧ gOK G') (noX) := by
  refine y_start (lv0 := [some (.ref a), some (.ref (sTa S t)), none]) (nm := "fit") (own := RX2) (by decide +kernel) rfl rfl (by exact Nat.le_of_ble_eq_true rfl) (by rfl) ?_
  intro Z Q E F
  have hst := hI.1
  have hn := hS.nt
  have hns := hS.ns
  have hnl := hS.nl
  have h13 := hS.sto (k := 0) (by omega) (by omega)
  have hw13 := hW 0 (by omega) hs
  have hll := hI.2.2.2.1
  have hSt := hS.t (t := (t : Int)) (by omega) (by omega)
  rw [show (13 : Int) + 0 = 13 by omega] at h13 hw13
  rw [soL_lv hs hns.2, List.map_cons] at hll
  obtain ⟨fl, hlc⟩ := hll.c
  have e12 := lvS_12 (w := w) (p := 0) hs
  have lv_lo : ∀ q, q < 12 ∨ 25 ≤ q → lvS w 0 q = w q := fun q hq => lvS_lo hq ⟨hs, hns.2⟩
  have fin : ∀ (G2 : yH) (y : Int → Int) (l1 : Option Value), y = fit0 w t → SH y → gK (· = (st, 3)) G G2 → gOK G2 → isST Γ G2 st a S y → Y Γ Z 1 3 Q G2 29 [some (.ref a), some (.ref (sTa S t)), some (.ref (sLa S (w 13).toNat))] [] := by
    intro G2 y l1 hy hyS hk hO2 hI2
    have yk : ∀ q, q < 12 ∨ (25 ≤ q ∧ q < 89) → y q = w q := fun q hq => by rw [hy]; exact fit0_n ⟨hs, hns.2⟩ (by omega) hq
    have y10 := yk 10 (by omega)
    have y11 := yk 11 (by omega)
    have hB2 := hB.kk hk
    have htw := isST_t hI2 (t := t) (by omega)
    rw [twX_F] at htw
    have hln := isST_l hI2 (l := (w 13).toNat) (by omega)
    unfold lnX at hln
    rw [show (((w 13).toNat : Nat) : Int) = w 13 by omega] at hln
    obtain ⟨hI3, hk3, -⟩ := isST_tset hB2 hI2 hyS (t := t) (by omega) (v := upI y (25 + 8 * (t : Int) + 3) (w 13)) (fun k hk => upI_n _ (by omega))
    have hK3 := gK_t (gK_m hk (fun τ (q : τ = (st, 3)) => (Or.inl q : τ = (st, 3) ∨ τ = (st, 5)))) (gK_m hk3 (fun τ q => Or.inr q))
    have hO3 := gOK_t (j := 5) (a := sTa S t) (e := twX Γ S (upI y (25 + 8 * (t : Int) + 3) (w 13)) t) hO2 hs0
    have hB3 := hB.kk hK3
    have hln3 := gs_n (v := (some (st, 5), twX Γ S (upI y (25 + 8 * (t : Int) + 3) (w 13)) t)) (g_ne hln htw (by simp)) hln
    have hf2 : lw y (w 13) 2 ≠ -2 := by
      rw [hy]
      unfold fit0
      split
      · unfold lw
        rw [lv_lo _ (by omega)]
        exact hq1
      · unfold stoS lw
        by_cases e : w 13 = tw w t 3
        · rw [e, upI_s]
          omega
        · rw [upI_n _ (by omega), upI_n _ (by omega), upI_n _ (by omega), lv_lo _ (by omega)]
          exact hq1
    have hI4 : isST Γ (gset G2 (sTa S t) (some (st, 5), twX Γ S (upI y (25 + 8 * (t : Int) + 3) (w 13)) t)) st a S (fitS w t) := by
      have y12 := (hyS).ns
      refine isST_sset hB3 hI3 gK_refl ?_ ?_ ?_ ?_
      · have := hI3.2.2.2.1
        rw [soL_c (w := upI y (25 + 8 * (t : Int) + 3) (w 13)) (v := fitS w t) ?_ ?_]
        · exact this
        · unfold fitS
          rw [← hy, upI_n _ (by omega)]
        · intro k k0 k1
          rw [upI_n _ (by omega)] at k1
          unfold fitS
          rw [← hy, upI_n _ (by omega)]
      · intro k hk
        unfold fitS
        rw [← hy, upI_n _ (by omega)]
      · rw [upI_n _ (by omega), y10]
        omega
      · intro l hl
        unfold fitS
        rw [← hy]
        have := lnX_w (w := upI y (25 + 8 * (t : Int) + 3) (w 13)) (l := l) (m := (w 13).toNat) (v := (t : Int)) (fun e => ?_)
        · rw [show (((w 13).toNat : Nat) : Int) = w 13 by omega] at this
          exact this
        · have el : (l : Int) = w 13 := by omega
          unfold lw at hf2 ⊢
          rw [el, upI_n _ (by omega)]
          omega
    first | refine y_ald_n E dX2_fit_29 (by rfl) ?_ | refine y_aload_n E dX2_fit_29 (by rfl) ?_
    first | refine y_ald_n E dX2_fit_30 (by rfl) ?_ | refine y_aload_n E dX2_fit_30 (by rfl) ?_
    refine y_putN E dX2_fit_31 fl_X2_62_X6 fw_X6_6 (by first | rfl | exact nar_r _ _) (by first | rfl | exact fit_r _ _) (htw) (Nat.le_of_ble_eq_true rfl) ?_
    refine y_heap (show _ = gset G2 (sTa S t) (some (st, 5), twX Γ S (upI y (25 + 8 * (t : Int) + 3) (w 13)) t) from by rw [twX_F, twF_3 (by omega)]) ?_
    have hln := hln3
    first | refine y_ald_n E dX2_fit_34 (by rfl) ?_ | refine y_aload_n E dX2_fit_34 (by rfl) ?_
    refine y_getN E dX2_fit_35 fl_X2_66_X5 (hln) (by rfl) ?_
    refine y_ireturn E F rfl rfl dX2_fit_38 (by omega) (by omega) ⟨rfl, hI4, hK3, hO3⟩
  by_cases h3 : tw w t 3 < 0
  · first | refine y_ald_n E dX2_fit_0 (by rfl) ?_ | refine y_aload_n E dX2_fit_0 (by rfl) ?_
    refine y_get E dX2_fit_1 fl_X2_24_X2 (hst) (by rfl) ?_
    refine y_callV E dX2_fit_4 lk_X2_172 (c_J4_removeFirst hll) (by rfl) (hlc) rfl (by decide) (by omega) (by omega) rfl (Nat.le_of_ble_eq_true rfl) ?_ (fun _ _ _ h => h.elim)
    rintro _ G1' ⟨rfl, hll1, hk1'⟩
    obtain ⟨G1, he1, hk1, hk2, hO1⟩ := rs_all hk1' hO ⟨fun q => (by cases q), fun q => (by cases q)⟩
    refine y_forget he1 ?_
    have hll1 := hll1.kk hk2 (by simp)
    have hB1 := hB.kk hk1
    have hI1 := isST_sset hB hI hk1 hll1 (fun k hk => lv_lo k (by omega)) hn.2 (fun l hl => lnX_c (fun j j0 j1 => lv_lo _ (by omega)))
    have htw := isST_t hI1 (t := t) (by rw [lv_lo 10 (by omega)]; exact ht)
    rw [twX_F] at htw
    unfold twF at htw
    rw [lnO_n (by unfold tw; rw [lv_lo _ (by omega)]; exact h3)] at htw
    have hln := isST_l hI1 (l := (w 13).toNat) (by rw [lv_lo 11 (by omega)]; omega)
    refine y_ccast E dX2_fit_7 q949 (hln) rfl (Or.inl rfl) ?_
    first | refine y_ast_n (j := 2) E dX2_fit_10 rfl (Nat.le_of_ble_eq_true rfl) ?_ | refine y_astore_n (j := 2) E dX2_fit_10 rfl (Nat.le_of_ble_eq_true rfl) ?_ | refine y_astore_n (j := 2) (r := none) E dX2_fit_10 rfl (Nat.le_of_ble_eq_true rfl) ?_
    first | refine y_ald_n E dX2_fit_11 (by rfl) ?_ | refine y_aload_n E dX2_fit_11 (by rfl) ?_
    refine y_getN E dX2_fit_12 fl_X2_62_X6 (htw) (by rfl) ?_
    refine y_ifnull_n (tgt := 29) E dX2_fit_15 (by decide) ?_
    exact y_widen (by omega) (by omega) (fin G1 (lvS w 0) none (by unfold fit0; rw [if_pos h3]) (hS.lv (by omega)) hk1 hO1 hI1)
  · first | refine y_ald_n E dX2_fit_0 (by rfl) ?_ | refine y_aload_n E dX2_fit_0 (by rfl) ?_
    refine y_get E dX2_fit_1 fl_X2_24_X2 (hst) (by rfl) ?_
    refine y_callV E dX2_fit_4 lk_X2_172 (c_J4_removeFirst hll) (by rfl) (hlc) rfl (by decide) (by omega) (by omega) rfl (Nat.le_of_ble_eq_true rfl) ?_ (fun _ _ _ h => h.elim)
    rintro _ G1' ⟨rfl, hll1, hk1'⟩
    obtain ⟨G1, he1, hk1, hk2, hO1⟩ := rs_all hk1' hO ⟨fun q => (by cases q), fun q => (by cases q)⟩
    refine y_forget he1 ?_
    have hll1 := hll1.kk hk2 (by simp)
    have hB1 := hB.kk hk1
    have hI1 := isST_sset hB hI hk1 hll1 (fun k hk => lv_lo k (by omega)) hn.2 (fun l hl => lnX_c (fun j j0 j1 => lv_lo _ (by omega)))
    have hst1 := hI1.1
    obtain ⟨fl1, hlc1⟩ := hll1.c
    have htw := isST_t hI1 (t := t) (by rw [lv_lo 10 (by omega)]; exact ht)
    rw [twX_F] at htw
    unfold twF at htw
    have e3 : tw (lvS w 0) t 3 = tw w t 3 := lv_lo _ (by omega)
    rw [lnO_s (by omega), e3] at htw
    have hln := isST_l hI1 (l := (w 13).toNat) (by rw [lv_lo 11 (by omega)]; omega)
    have hlt := isST_l hI1 (l := (tw w t 3).toNat) (by rw [lv_lo 11 (by omega)]; have := hL t (by omega) ht; omega)
    refine y_ccast E dX2_fit_7 q949 (hln) rfl (Or.inl rfl) ?_
    first | refine y_ast_n (j := 2) E dX2_fit_10 rfl (Nat.le_of_ble_eq_true rfl) ?_ | refine y_astore_n (j := 2) E dX2_fit_10 rfl (Nat.le_of_ble_eq_true rfl) ?_ | refine y_astore_n (j := 2) (r := none) E dX2_fit_10 rfl (Nat.le_of_ble_eq_true rfl) ?_
    first | refine y_ald_n E dX2_fit_11 (by rfl) ?_ | refine y_aload_n E dX2_fit_11 (by rfl) ?_
    refine y_getN E dX2_fit_12 fl_X2_62_X6 (htw) (by rfl) ?_
    refine y_ifnull_r E dX2_fit_15 ?_
    have hst := hst1
    have hlc := hlc1
    first | refine y_ald_n E dX2_fit_18 (by rfl) ?_ | refine y_aload_n E dX2_fit_18 (by rfl) ?_
    refine y_get E dX2_fit_19 fl_X2_24_X2 (hst) (by rfl) ?_
    first | refine y_ald_n E dX2_fit_22 (by rfl) ?_ | refine y_aload_n E dX2_fit_22 (by rfl) ?_
    refine y_getN E dX2_fit_23 fl_X2_62_X6 (htw) (by rfl) ?_
    refine y_callV E dX2_fit_26 lk_X2_175 (c_J4_addLast (x := some (sLa S (tw w t 3).toNat)) hll1) (by rfl) (hlc) rfl (by decide) (by omega) (by omega) rfl (Nat.le_of_ble_eq_true rfl) ?_ (fun _ _ _ h => h.elim)
    rintro _ G2' ⟨rfl, hll2, hk2'⟩
    obtain ⟨G2, he2, hk3, hk4, hO2⟩ := rs_all hk2' hO1 ⟨fun q => (by cases q), fun q => (by cases q)⟩
    refine y_forget he2 ?_
    have hll2 := hll2.kk hk4 (by simp)
    have hm : (soL S (lvS w 0)).map some ++ [some (sLa S (tw w t 3).toNat)] = (soL S (stoS (lvS w 0) (tw w t 3))).map some := by rw [soL_sto (by omega) (by omega) (by omega), List.map_append]; rfl
    rw [hm] at hll2
    have hI2 := isST_sset hB1 hI1 hk3 hll2 (fun k hk => by unfold stoS; rw [upI_n _ (by omega), upI_n _ (by omega), upI_n _ (by omega)]) (by rw [lv_lo 10 (by omega)]; omega) (fun l hl => lnX_sto (by omega) (by omega) (by unfold lw; rw [lv_lo _ (by omega)]; exact hq2 (by omega)) l)
    exact y_widen (by omega) (by omega) (fin G2 (stoS (lvS w 0) (tw w t 3)) none (by unfold fit0; rw [if_neg h3]) ((hS.lv (by omega)).sto' (by omega) (by omega)) (gK_t hk1 hk3) hO2 hI2)
end Ft
