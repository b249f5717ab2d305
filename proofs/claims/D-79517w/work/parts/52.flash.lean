/-! ===== Tower.isFlash ===== -/
/-- the sign at the place i, round and round -/
def flS (sg mn i : Nat) : Bool := decide (sg / 2 ^ (mn - 1 - i % mn) % 2 = 1)
section Fl
variable {Γ : yG}
set_option maxHeartbeats 4000000
theorem c_X6_isFlash {G : yH} {a sd sg mn i : Nat} {t : yT} {k p sk lit br : Int} {ln : Option Nat} (h : G a = some (t, twE k p sd sk sg mn ln lit br)) (hs : sg < 256) (hm : 1 ≤ mn ∧ mn ≤ 8) (hi : i < 1000) : Ct_X6_isFlash Γ 1 0 0 [.ref a, .int (iI i)] G (fun v G' => v = some (.int (iI (b2i (flS sg mn i)))) ∧ G' = G) noX := by
  unfold twE at h
  have hlt : i % mn < mn := Nat.mod_lt _ (by omega)
  refine y_start (lv0 := [some (.ref a), some (.int (iI i))]) (nm := "isFlash") (own := RX6) (by decide +kernel) rfl rfl (by first | exact Nat.le_of_ble_eq_true rfl | (simp only [yArgs, va_cat_rf]; simp [Value.category])) (by first | rfl | (simp only [yArgs, va_cat_rf]; simp [Value.category])) ?_
  intro Z Q E F
  first | refine y_ald_n E dX6_isFlash_0 (by rfl) ?_ | refine y_aload_n E dX6_isFlash_0 (by rfl) ?_
  refine y_get E dX6_isFlash_1 fl_X6_9_X6 (h) (by rfl) ?_
  first | refine y_ald_n E dX6_isFlash_4 (by rfl) ?_ | refine y_aload_n E dX6_isFlash_4 (by rfl) ?_
  refine y_get E dX6_isFlash_5 fl_X6_15_X6 (h) (by rfl) ?_
  refine y_iconst E dX6_isFlash_8 ?_
  refine y_isub E dX6_isFlash_9 ?_
  refine y_iload_n E dX6_isFlash_10 (by rfl) ?_
  first | refine y_ald_n E dX6_isFlash_11 (by rfl) ?_ | refine y_aload_n E dX6_isFlash_11 (by rfl) ?_
  refine y_get E dX6_isFlash_12 fl_X6_15_X6 (h) (by rfl) ?_
  refine y_irem E dX6_isFlash_15 (by omega) (by omega) ?_
  refine y_isub E dX6_isFlash_16 ?_
  refine y_top (v' := .int (iI ((mn - 1 - i % mn : Nat) : Int))) (by congr 2; rw [← Int.natCast_emod]; omega) ?_
  refine y_ishr E dX6_isFlash_17 (iI_shr (mn - 1 - i % mn) (by omega) (by omega) (by omega)) ?_
  refine y_top (v' := .int (iI ((sg / 2 ^ (mn - 1 - i % mn) : Nat) : Int))) (by rw [Int.natCast_ediv]) ?_
  refine y_iconst E dX6_isFlash_18 ?_
  refine y_iand E dX6_isFlash_19 (iI_and_low _ 1 (by decide) (by decide)) ?_
  refine y_iconst E dX6_isFlash_20 ?_
  have hr : sg / 2 ^ (mn - 1 - i % mn) % 2 ^ 1 < 2 := Nat.mod_lt _ (by decide)
  refine y_icmp_ne (tgt := 28) E dX6_isFlash_21 (by decide) (by omega) (by omega) (fun hb => ?_) (fun hb => ?_)
  · refine y_iconst E dX6_isFlash_28 ?_
    refine y_top (v' := .int (iI (b2i (flS sg mn i)))) (by unfold flS; rw [decide_eq_false (fun e => hb (by rw [Nat.pow_one, e]; rfl))]; rfl) ?_
    refine y_ireturn E F rfl (nar_b _) dX6_isFlash_29 (by omega) (by omega) ⟨rfl, rfl⟩
  · refine y_iconst E dX6_isFlash_24 ?_
    refine y_goto (tgt := 29) E dX6_isFlash_25 (by decide) ?_
    refine y_top (v' := .int (iI (b2i (flS sg mn i)))) (by unfold flS; rw [decide_eq_true (by rw [Nat.pow_one] at hb; exact Int.ofNat.inj hb)]; rfl) ?_
    refine y_ireturn E F rfl (nar_b _) dX6_isFlash_29 (by omega) (by omega) ⟨rfl, rfl⟩
end Fl
