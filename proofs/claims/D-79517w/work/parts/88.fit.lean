/-! ===== State: breaking, fitting, nights ===== -/
section X2e
variable {Γ : yG} {G : yH} {st a : Nat} {S : SA} {w : Int → Int}
set_option maxHeartbeats 4000000
theorem c_X2_breakDown (hs0 : 0 < st) (hB : gB Γ G) (hI : isST Γ G st a S w) (hS : SH w) {t : Nat} (ht : (t : Int) < w 10) : Ct_X2_breakDown Γ 1 0 0 [.ref a, .ref (sTa S t)] (G) (fun v G' => v = none ∧ isST Γ G' st a S (brkS w t) ∧ gK (· = (st, 5)) G G' ∧ (gOK G → gOK G')) (noX) := by
  refine y_start (lv0 := [some (.ref a), some (.ref (sTa S t))]) (nm := "breakDown") (own := RX2) (by decide +kernel) rfl rfl (by exact Nat.le_of_ble_eq_true rfl) (by rfl) ?_
  intro Z Q E F
  have htw := isST_t hI ht
  have hB0 := hB
  rw [twX_F] at htw
  obtain ⟨hI1, hk1, -⟩ := isST_tset hB hI hS ht (v := upI w (25 + 8 * (t : Int) + 5) 1) (fun k hk => upI_n _ (by omega))
  have hS1 := hS.t5 (t := (t : Int)) (v := 1) (by have := hS.nt; omega) (by omega)
  have ht1 : (t : Int) < (upI w (25 + 8 * (t : Int) + 5) 1) 10 := by rw [upI_n _ (by omega)]; exact ht
  have htw1 := isST_t hI1 ht1
  rw [twX_F] at htw1
  have hB1 := hB.kk hk1
  obtain ⟨hI2, hk2, -⟩ := isST_tset hB1 hI1 hS1 ht1 (v := upI (upI w (25 + 8 * (t : Int) + 5) 1) (25 + 8 * (t : Int) + 4) 0) (fun k hk => upI_n _ (by omega))
  first | refine y_ald_n E dX2_breakDown_0 (by rfl) ?_ | refine y_aload_n E dX2_breakDown_0 (by rfl) ?_
  refine y_iconst E dX2_breakDown_1 ?_
  refine y_putN E dX2_breakDown_2 fl_X2_161_X6 fw_X6_8 (nar_z (by omega)) (fit_z (by omega)) (htw) (Nat.le_of_ble_eq_true rfl) ?_
  refine y_heap (show _ = gset G (sTa S t) (some (st, 5), twX Γ S (upI w (25 + 8 * (t : Int) + 5) 1) t) from by rw [twX_F, twF_5]) ?_
  first | refine y_ald_n E dX2_breakDown_5 (by rfl) ?_ | refine y_aload_n E dX2_breakDown_5 (by rfl) ?_
  refine y_iconst E dX2_breakDown_6 ?_
  refine y_putN E dX2_breakDown_7 fl_X2_133_X6 fw_X6_7 (nar_z (by omega)) (fit_z (by omega)) (htw1) (Nat.le_of_ble_eq_true rfl) ?_
  refine y_heap (show _ = gset (gset G (sTa S t) (some (st, 5), twX Γ S (upI w (25 + 8 * (t : Int) + 5) 1) t)) (sTa S t) (some (st, 5), twX Γ S (upI (upI w (25 + 8 * (t : Int) + 5) 1) (25 + 8 * (t : Int) + 4) 0) t) from by rw [twX_F, twX_F, twF_4]) ?_
  refine y_return E F rfl dX2_breakDown_10 (by omega) (by omega) ⟨rfl, hI2, gK_t hk1 hk2, fun h => gOK_t (gOK_t h hs0) hs0⟩
end X2e
