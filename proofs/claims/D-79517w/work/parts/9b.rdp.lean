/-! ===== Reader: patterns, commands ===== -/
section Rp
/-- signs are read: the place, the signs, how many -/
def sgR (T : Nat → Int → Int) : Nat → Int → Int → Int → Int × Int × Int
  | 0, p, m, n => (p, m, n)
  | f + 1, p, m, n => if n < 8 ∧ (hrT T p = 42 ∨ hrT T p = 46) then sgR T f (p + 1) (2 * m + (if hrT T p = 42 then 1 else 0)) (n + 1) else (p, m, n)
theorem or_01 : ∀ b : Nat, b < 2 → ∀ c : Nat, c < 2 → iI (b : Int) ||| iI (c : Int) = iI ((max b c : Nat) : Int) := by decide +kernel
theorem or_i {b c : Int} (hb : b = 0 ∨ b = 1) (hc : c = 0 ∨ c = 1) : iI b ||| iI c = iI (max b c) := by
  have := or_01 b.toNat (by omega) c.toNat (by omega)
  rw [show ((b.toNat : Nat) : Int) = b by omega, show ((c.toNat : Nat) : Int) = c by omega, show ((max b.toNat c.toNat : Nat) : Int) = max b c by omega] at this
  exact this
end Rp
section X7b
variable {Γ : yG} {G : yH} {T : Nat → Int → Int} {cs : List Int} {r x l : Nat} {τ : Nat × Nat} {t : yT} {p b : Int}
set_option maxHeartbeats 4000000
theorem c_X7_isSignHere {n : Int} (hr : G r = some (some τ, rdE x l p b)) (hx : isStr G t x cs) (hT : TX T cs) (hp : 0 ≤ p ∧ p ≤ 60) (hb : b = 0 ∨ b = 1) (hn : 0 ≤ n ∧ n ≤ 8) : Ct_X7_isSignHere Γ 6 0 0 [.ref r, .int (iI n)] (G) (fun v G' => v = some (.int (iI (b2i (dB (b = 0 ∧ n < 8 ∧ (hrT T p = 42 ∨ hrT T p = 46)))))) ∧ G' = G) (noX) := by
  refine y_start (lv0 := [some (.ref r), some (.int (iI n))]) (nm := "isSignHere") (own := RX7) (by decide +kernel) rfl rfl (by exact Nat.le_of_ble_eq_true rfl) (by rfl) ?_
  intro Z Q E F
  have hin := hrT_in hT hp.1
  first | refine y_ald_n E dX7_isSignHere_0 (by rfl) ?_ | refine y_aload_n E dX7_isSignHere_0 (by rfl) ?_
  refine y_get E dX7_isSignHere_1 fl_X7_34_X7 (hr) (by rfl) ?_
  refine y_if_ne (tgt := 35) E dX7_isSignHere_4 (by decide) (by omega) (fun h4 => ?_) (fun h4 => ?_)
  · refine y_iconst E dX7_isSignHere_35 ?_
    refine y_ireturn E F rfl rfl dX7_isSignHere_36 (by omega) (by omega) (by first
        | (rw [dB_t ⟨by omega, by omega, by omega⟩]; exact ⟨rfl, rfl⟩)
        | (rw [dB_f (fun q => by omega)]; exact ⟨rfl, rfl⟩))
  · refine y_iload_n E dX7_isSignHere_7 (by rfl) ?_
    refine y_bipush E dX7_isSignHere_8 (by decide) ?_
    refine y_icmp_ge (tgt := 35) E dX7_isSignHere_10 (by decide) (by omega) (by omega) (fun h10 => ?_) (fun h10 => ?_)
    · refine y_iconst E dX7_isSignHere_35 ?_
      refine y_ireturn E F rfl rfl dX7_isSignHere_36 (by omega) (by omega) (by first
          | (rw [dB_t ⟨by omega, by omega, by omega⟩]; exact ⟨rfl, rfl⟩)
          | (rw [dB_f (fun q => by omega)]; exact ⟨rfl, rfl⟩))
    · first | refine y_ald_n E dX7_isSignHere_13 (by rfl) ?_ | refine y_aload_n E dX7_isSignHere_13 (by rfl) ?_
      refine y_callV E dX7_isSignHere_14 lk_X7_52 (c_X7_here hr hx hT (by omega)) (by rfl) (hr) rfl (by decide) (by omega) (by omega) rfl (Nat.le_of_ble_eq_true rfl) ?_ (fun _ _ _ h => h.elim)
      rintro _ _ ⟨rfl, hG9⟩
      rw [hG9]
      clear hG9
      refine y_bipush E dX7_isSignHere_17 (by decide) ?_
      refine y_icmp_eq (tgt := 31) E dX7_isSignHere_19 (by decide) (by omega) (by omega) (fun h19 => ?_) (fun h19 => ?_)
      · refine y_iconst E dX7_isSignHere_31 ?_
        refine y_goto (tgt := 36) E dX7_isSignHere_32 (by decide) ?_
        refine y_ireturn E F rfl rfl dX7_isSignHere_36 (by omega) (by omega) (by first
            | (rw [dB_t ⟨by omega, by omega, by omega⟩]; exact ⟨rfl, rfl⟩)
            | (rw [dB_f (fun q => by omega)]; exact ⟨rfl, rfl⟩))
      · first | refine y_ald_n E dX7_isSignHere_22 (by rfl) ?_ | refine y_aload_n E dX7_isSignHere_22 (by rfl) ?_
        refine y_callV E dX7_isSignHere_23 lk_X7_52 (c_X7_here hr hx hT (by omega)) (by rfl) (hr) rfl (by decide) (by omega) (by omega) rfl (Nat.le_of_ble_eq_true rfl) ?_ (fun _ _ _ h => h.elim)
        rintro _ _ ⟨rfl, hG9⟩
        rw [hG9]
        clear hG9
        refine y_bipush E dX7_isSignHere_26 (by decide) ?_
        refine y_icmp_ne (tgt := 35) E dX7_isSignHere_28 (by decide) (by omega) (by omega) (fun h28 => ?_) (fun h28 => ?_)
        · refine y_iconst E dX7_isSignHere_35 ?_
          refine y_ireturn E F rfl rfl dX7_isSignHere_36 (by omega) (by omega) (by first
              | (rw [dB_t ⟨by omega, by omega, by omega⟩]; exact ⟨rfl, rfl⟩)
              | (rw [dB_f (fun q => by omega)]; exact ⟨rfl, rfl⟩))
        · refine y_iconst E dX7_isSignHere_31 ?_
          refine y_goto (tgt := 36) E dX7_isSignHere_32 (by decide) ?_
          refine y_ireturn E F rfl rfl dX7_isSignHere_36 (by omega) (by omega) (by first
              | (rw [dB_t ⟨by omega, by omega, by omega⟩]; exact ⟨rfl, rfl⟩)
              | (rw [dB_f (fun q => by omega)]; exact ⟨rfl, rfl⟩))
end X7b
