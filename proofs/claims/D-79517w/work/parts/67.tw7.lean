/-! ===== the twin: changes ===== -/
section Rw7
theorem tb_1shlI {m : Int} (h : 0 ≤ m ∧ m ≤ 30) : iI 1 <<< (iI m &&& 31) = iI ((2 ^ m.toNat : Nat) : Int) := by
  have := tb_1shl m.toNat (by omega)
  rwa [show ((m.toNat : Nat) : Int) = m by omega] at this
def patP (s m : Int) : Prop := 2 ≤ m ∧ m ≤ 8 ∧ 1 ≤ s ∧ s ≤ ((2 ^ m.toNat : Nat) : Int) - 1
theorem p2_b {m : Int} (h : 2 ≤ m ∧ m ≤ 8) : 4 ≤ 2 ^ m.toNat ∧ 2 ^ m.toNat ≤ 256 := by
  have : ∀ k : Nat, k < 9 → 2 ≤ k → 4 ≤ 2 ^ k ∧ 2 ^ k ≤ 256 := by decide +kernel
  exact this m.toNat (by omega) (by omega)
/-- a call that fails, that is refused, that has changed the row -/
def failT (T : Nat → Int → Int) (c : Int) : Nat → Int → Int := upN T 0 (fun _ => c)
def rfuT (T : Nat → Int → Int) (q : Option (Int × Int)) (c : Int) : Nat → Int → Int := refT (hinO (upN T 0 (fun _ => 0)) q) c
noncomputable def chgT (T : Nat → Int → Int) (w : Int → Int) : Nat → Int → Int := remT (upN (upN (upN T 0 (fun _ => 0)) 8 (cpy (T 5) (T 8) 0 128)) 5 (stlS w))
theorem hinO_n {T : Nat → Int → Int} {q : Option (Int × Int)} (h : ¬ q.isSome = true) : hinO T q = T := by
  cases q with
  | none => rfl
  | some q => exact absurd rfl h
/-- is there this tower -/
def isT (w : Int → Int) (t : Int) : Prop := 0 ≤ t ∧ t ≤ w 10 - 1
noncomputable def o_light (T : Nat → Int → Int) (t : Int) : Int × (Nat → Int → Int) := if dB (0 ≤ t ∧ t ≤ T 5 10 - 1) = false then (0, failT T 1) else if (whyLit (T 5) t).isSome = true then (0, rfuT T (whyLit (T 5) t) 2) else (litN (stlS (upI (T 5) (25 + 8 * t + 4) 1)), chgT T (upI (T 5) (25 + 8 * t + 4) 1))
noncomputable def o_darken (T : Nat → Int → Int) (t : Int) : Int × (Nat → Int → Int) := if dB (0 ≤ t ∧ t ≤ T 5 10 - 1) = false then (0, failT T 1) else if (whyDark (T 5) t).isSome = true then (0, rfuT T (whyDark (T 5) t) 2) else (litN (stlS (upI (T 5) (25 + 8 * t + 4) 0)), chgT T (upI (T 5) (25 + 8 * t + 4) 0))
noncomputable def o_breakDown (T : Nat → Int → Int) (t : Int) : Int × (Nat → Int → Int) := if dB (0 ≤ t ∧ t ≤ T 5 10 - 1) = false then (0, failT T 1) else if (whyBroken (T 5) t).isSome = true then (0, rfuT T (whyBroken (T 5) t) 2) else (litN (stlS (brkS (T 5) t)), chgT T (brkS (T 5) t))
noncomputable def brkN (w : Int → Int) : Int := sumI (fun t => tw w t 5) (w 10)
noncomputable def o_mend (T : Nat → Int → Int) (t : Int) : Int × (Nat → Int → Int) := if dB (0 ≤ t ∧ t ≤ T 5 10 - 1) = false then (0, failT T 1) else if (whyMended (T 5) t).isSome = true then (0, rfuT T (whyMended (T 5) t) 2) else (brkN (stlS (upI (T 5) (25 + 8 * t + 5) 0)), chgT T (upI (T 5) (25 + 8 * t + 5) 0))
noncomputable def o_fit (T : Nat → Int → Int) (t : Int) : Int × (Nat → Int → Int) := if dB (0 ≤ t ∧ t ≤ T 5 10 - 1) = false then (0, failT T 1) else if (whyFitted (T 5)).isSome = true then (0, rfuT T (whyFitted (T 5)) 2) else (T 5 13, chgT T (fitS (T 5) t))
noncomputable def o_fog (T : Nat → Int → Int) (s f : Int) : Int × (Nat → Int → Int) := if dB (0 ≤ s ∧ s ≤ 6) = false then (0, failT T 1) else if dB (0 ≤ f ∧ f ≤ 9) = false then (0, failT T 2) else (T 5 (3 + s), chgT T (upI (T 5) (3 + s) f))
noncomputable def o_pattern (T : Nat → Int → Int) (t s m : Int) : Int × (Nat → Int → Int) := if dB (0 ≤ t ∧ t ≤ T 5 10 - 1) = false then (0, failT T 1) else if dB (patP s m) = false then (0, failT T 2) else ((popS (tw (T 5) t 6).toNat : Nat), chgT T (patS (T 5) t s m))
def lenS (w : Int → Int) (p : Int) : Int → Int := stoS (upI (upI (upI w 11 (w 11 + 1)) (89 + 3 * w 11 + 0) p) (89 + 3 * w 11 + 1) p) (w 11)
noncomputable def o_lens (T : Nat → Int → Int) (p : Int) : Int × (Nat → Int → Int) := if dB (5 ≤ p ∧ p ≤ 60) = false then (0, failT T 1) else if T 5 11 = 12 then (0, failT T 2) else (T 5 11, chgT T (lenS (T 5) p))
def twrS (w : Int → Int) (p sd sk : Int) : Int → Int := upI (upI (upI (upI (upI (upI (upI (upI (upI w (25 + 8 * w 10 + 0) p) (25 + 8 * w 10 + 1) sd) (25 + 8 * w 10 + 2) sk) (25 + 8 * w 10 + 3) (-1)) (25 + 8 * w 10 + 4) 0) (25 + 8 * w 10 + 5) 0) (25 + 8 * w 10 + 6) 2) (25 + 8 * w 10 + 7) 2) 10 (w 10 + 1)
noncomputable def atS (w : Int → Int) (p : Int) : Int := fstI (fun t => tw w t 0 = p) (w 10)
noncomputable def o_tower (T : Nat → Int → Int) (p sd sk : Int) : Int × (Nat → Int → Int) := if dB (0 ≤ p ∧ p ≤ 60) = false then (0, failT T 1) else if dB ((0 ≤ sd ∧ sd ≤ 2) ∧ 0 ≤ sk ∧ sk ≤ 9) = false then (0, failT T 2) else if T 5 10 = 8 then (0, failT T 3) else if 0 ≤ atS (T 5) p then (0, rfuT T (some (1, atS (T 5) p)) 4) else (T 5 10, chgT T (twrS (T 5) p sd sk))
theorem UT_up {w : Int → Int} (hU : UT w) {t j v : Int} (hj : 0 ≤ j ∧ j < 6) (h0 : 0 ≤ t) : UT (upI w (25 + 8 * t + j) v) := UT_c (upI_n _ (by omega)) (fun s s0 s1 => ⟨upI_n _ (by omega), upI_n _ (by omega)⟩) hU
theorem UT_lo {w : Int → Int} (hU : UT w) {k v : Int} (hk : k < 25 ∧ k ≠ 10) : UT (upI w k v) := UT_c (upI_n _ (by omega)) (fun s s0 s1 => ⟨upI_n _ (by omega), upI_n _ (by omega)⟩) hU
theorem UT_hi {w : Int → Int} (hU : UT w) (h8 : w 10 ≤ 8) {k v : Int} (hk : 89 ≤ k) : UT (upI w k v) := UT_c (upI_n _ (by omega)) (fun s s0 s1 => ⟨upI_n _ (by omega), upI_n _ (by omega)⟩) hU
theorem SH.t4 {w : Int → Int} (h : SH w) {t v : Int} (ht : 0 ≤ t ∧ t < 8) (hv : 0 ≤ v ∧ v ≤ 1) : SH (upI w (25 + 8 * t + 4) v) := h.up (fun _ _ => by unfold loB hiB; omega)
theorem SH.t5 {w : Int → Int} (h : SH w) {t v : Int} (ht : 0 ≤ t ∧ t < 8) (hv : 0 ≤ v ∧ v ≤ 1) : SH (upI w (25 + 8 * t + 5) v) := h.up (fun _ _ => by unfold loB hiB; omega)
theorem SH.brk {w : Int → Int} (h : SH w) {t : Int} (ht : 0 ≤ t ∧ t < 8) : SH (brkS w t) := (h.t5 ht (by omega)).t4 ht (by omega)
theorem UT.brk {w : Int → Int} (hU : UT w) {t : Int} (h0 : 0 ≤ t) : UT (brkS w t) := UT_up (UT_up hU (by omega) h0) (by omega) h0
theorem SH.pat {w : Int → Int} (h : SH w) {t s m : Int} (ht : 0 ≤ t ∧ t < 8) (hp : patP s m) : SH (patS w t s m) := by
  have := p2_b ⟨hp.1, hp.2.1⟩
  obtain ⟨a, b, c, d⟩ := hp
  exact (h.up (fun _ _ => by unfold loB hiB; omega)).up (fun _ _ => by unfold loB hiB; omega)
theorem UT.pat {w : Int → Int} (hU : UT w) {t s m : Int} (ht : 0 ≤ t) (hp : patP s m) : UT (patS w t s m) := by
  have hp2 := p2_b ⟨hp.1, hp.2.1⟩
  obtain ⟨a, b, c, d⟩ := hp
  have e10 : patS w t s m 10 = w 10 := by unfold patS; rw [upI_n _ (by omega), upI_n _ (by omega)]
  intro q q0 q1
  rw [e10] at q1
  by_cases e : q = t
  · subst e
    have e7 : tw (patS w q s m) q 7 = m := by unfold tw patS; rw [upI_s]
    have e6 : tw (patS w q s m) q 6 = s := by unfold tw patS; rw [upI_n _ (by omega), upI_s]
    unfold PO
    rw [e7, e6]
    exact ⟨a, b, by omega, by omega⟩
  · have e7 : tw (patS w t s m) q 7 = tw w q 7 := by unfold tw patS; rw [upI_n _ (by omega), upI_n _ (by omega)]
    have e6 : tw (patS w t s m) q 6 = tw w q 6 := by unfold tw patS; rw [upI_n _ (by omega), upI_n _ (by omega)]
    unfold PO
    rw [e7, e6]
    exact hU q q0 q1
theorem lvS_lo {w : Int → Int} {q : Int} (h : q < 12 ∨ 25 ≤ q) (hn : 0 < w 12 ∧ w 12 ≤ 12) : lvS w 0 q = w q := lvS_n h ⟨by omega, hn.1, hn.2⟩
theorem fit0_n {w : Int → Int} {t q : Int} (hn : 0 < w 12 ∧ w 12 ≤ 12) (hl : tw w t 3 ≤ 11) (h : q < 12 ∨ (25 ≤ q ∧ q < 89)) : fit0 w t q = w q := by
  unfold fit0
  split
  · exact lvS_lo (by omega) hn
  · unfold stoS
    have := lvS_12 (w := w) (p := 0) hn.1
    rw [upI_n _ (by omega), upI_n _ (by omega), upI_n _ (by omega)]
    exact lvS_lo (by omega) hn
theorem UT.fit {w : Int → Int} (hS : SH w) (hU : UT w) {t : Int} (ht : 0 ≤ t ∧ t < 8) (hn : 0 < w 12) : UT (fitS w t) := by
  have h1 := hS.ns
  have h2 := hS.t ht.1 ht.2
  have h3 := hS.sto (k := 0) (by omega) (by omega)
  have h4 := hS.nt
  simp only [Int.add_zero] at h3
  have key : ∀ q, q < 12 ∨ (25 ≤ q ∧ q < 89 ∧ q ≠ 25 + 8 * t + 3) → fitS w t q = w q := by
    intro q hq
    unfold fitS
    rw [upI_n _ (by omega), upI_n _ (by omega), fit0_n ⟨hn, h1.2⟩ (by omega) (by omega)]
  exact UT_c (key 10 (by omega)) (fun s s0 s1 => ⟨key _ (by omega), key _ (by omega)⟩) hU
theorem SH.len {w : Int → Int} (h : SH w) {p : Int} (hp : 0 ≤ p ∧ p ≤ 60) (hn : w 11 < 12) (hs : w 12 < 12) : SH (lenS w p) := by
  have h1 := h.nl
  refine (((h.up (fun _ _ => by unfold loB hiB; omega)).up (fun _ _ => by unfold loB hiB; omega)).up (fun _ _ => by unfold loB hiB; omega)).sto' (by omega) ?_
  rw [upI_n _ (by omega), upI_n _ (by omega), upI_n _ (by omega)]
  exact hs
theorem UT.len {w : Int → Int} (hS : SH w) (hU : UT w) {p : Int} (hn : w 11 < 12) (hs : w 12 < 12) : UT (lenS w p) := by
  have h1 := hS.nl
  have h2 := hS.ns
  have h4 := hS.nt
  have key : ∀ q, q ≠ 11 → q ≠ 12 → (q < 13 ∨ (25 ≤ q ∧ q < 89)) → lenS w p q = w q := by
    intro q q1 q2 q3
    have e12 : (upI (upI (upI w 11 (w 11 + 1)) (89 + 3 * w 11 + 0) p) (89 + 3 * w 11 + 1) p) 12 = w 12 := by rw [upI_n _ (by omega), upI_n _ (by omega), upI_n _ (by omega)]
    unfold lenS stoS
    rw [e12, upI_n _ (by omega), upI_n _ (by omega), upI_n _ (by omega), upI_n _ (by omega), upI_n _ (by omega), upI_n _ (by omega)]
  exact UT_c (key 10 (by omega) (by omega) (by omega)) (fun s s0 s1 => ⟨key _ (by omega) (by omega) (by omega), key _ (by omega) (by omega) (by omega)⟩) hU
theorem SH.twr {w : Int → Int} (h : SH w) {p sd sk : Int} (hp : 0 ≤ p ∧ p ≤ 60) (hd : 0 ≤ sd ∧ sd ≤ 2) (hk : 0 ≤ sk ∧ sk ≤ 9) (hn : w 10 < 8) : SH (twrS w p sd sk) := by
  have h1 := h.nt
  refine ((((((((h.up ?_).up ?_).up ?_).up ?_).up ?_).up ?_).up ?_).up ?_).up ?_ <;> intro _ _ <;> unfold loB hiB <;> omega
theorem UT.twr {w : Int → Int} (hS : SH w) (hU : UT w) {p sd sk : Int} (hn : w 10 < 8) : UT (twrS w p sd sk) := by
  have h1 := hS.nt
  have e10 : twrS w p sd sk 10 = w 10 + 1 := by unfold twrS; rw [upI_s]
  intro q q0 q1
  rw [e10] at q1
  by_cases e : q = w 10
  · have e7 : tw (twrS w p sd sk) q 7 = 2 := by unfold tw twrS; rw [e, upI_n _ (by omega), upI_s]
    have e6 : tw (twrS w p sd sk) q 6 = 2 := by unfold tw twrS; rw [e, upI_n _ (by omega), upI_n _ (by omega), upI_s]
    unfold PO
    rw [e7, e6]
    decide
  · have key : ∀ j, 0 ≤ j → j < 8 → tw (twrS w p sd sk) q j = tw w q j := by
      intro j j0 j1
      unfold tw twrS
      rw [upI_n _ (by omega), upI_n _ (by omega), upI_n _ (by omega), upI_n _ (by omega), upI_n _ (by omega), upI_n _ (by omega), upI_n _ (by omega), upI_n _ (by omega), upI_n _ (by omega)]
    unfold PO
    rw [key 7 (by omega) (by omega), key 6 (by omega) (by omega)]
    exact hU q q0 (by omega)
end Rw7
section Tw7
variable {Γ : yG} {A : Nat → Nat} {T : Nat → Int → Int} {G : yH}
set_option maxHeartbeats 4000000
theorem m_isPattern {s m : Int} (hs : inR s) (hm : inR m) : Ct_X3_isPattern Γ 2 0 0 [.int (iI (s)), .int (iI (m))] (G) (fun v G' => v = some (.int (iI (b2i (dB (patP s m))))) ∧ G' = G) noX := by
  refine y_start (lv0 := [some (.int (iI (s))), some (.int (iI (m)))]) (nm := "isPattern") (own := RX3) (by decide +kernel) rfl rfl (by exact Nat.le_of_ble_eq_true rfl) (by rfl) ?_
  intro Z Q E F
  refine y_iload_n E dX3_isPattern_0 (by rfl) ?_
  refine y_iconst E dX3_isPattern_1 ?_
  refine y_bipush E dX3_isPattern_2 (by decide) ?_
  refine y_callS E dX3_isPattern_4 lk_X3_77 (m_isBetween ?_ ?_ ?_) (by rfl) (by decide) (by omega) (by omega) rfl (Nat.le_of_ble_eq_true rfl) ?_ (fun _ _ _ h => h.elim)
  · first | omega | (simp (decide := true) only [upN_s, upN_n, upN_upN, upN_id] <;> omega)
  · first | omega | (simp (decide := true) only [upN_s, upN_n, upN_upN, upN_id] <;> omega)
  · first | omega | (simp (decide := true) only [upN_s, upN_n, upN_upN, upN_id] <;> omega)
  rintro _ _ ⟨rfl, rfl⟩
  refine y_ifd_eq (tgt := 27) E dX3_isPattern_7 (by decide) (fun h7 => ?_) (fun h7 => ?_)
  · refine y_iconst E dX3_isPattern_27 ?_
    refine y_ireturn E F rfl rfl dX3_isPattern_28 (by omega) (by omega) ⟨(rF (by unfold patP; omega)), rfl⟩
  · refine y_iload_n E dX3_isPattern_10 (by rfl) ?_
    refine y_iconst E dX3_isPattern_11 ?_
    refine y_iconst E dX3_isPattern_12 ?_
    refine y_iload_n E dX3_isPattern_13 (by rfl) ?_
    have hp2 := p2_b (m := m) (by omega)
    refine y_ishl E dX3_isPattern_14 (tb_1shlI (by omega)) ?_
    refine y_iconst E dX3_isPattern_15 ?_
    refine y_isub E dX3_isPattern_16 ?_
    refine y_callS E dX3_isPattern_17 lk_X3_77 (m_isBetween ?_ ?_ ?_) (by rfl) (by decide) (by omega) (by omega) rfl (Nat.le_of_ble_eq_true rfl) ?_ (fun _ _ _ h => h.elim)
    · first | omega | (simp (decide := true) only [upN_s, upN_n, upN_upN, upN_id] <;> omega)
    · first | omega | (simp (decide := true) only [upN_s, upN_n, upN_upN, upN_id] <;> omega)
    · first | omega | (simp (decide := true) only [upN_s, upN_n, upN_upN, upN_id] <;> omega)
    rintro _ _ ⟨rfl, rfl⟩
    refine y_ifd_eq (tgt := 27) E dX3_isPattern_20 (by decide) (fun h20 => ?_) (fun h20 => ?_)
    · refine y_iconst E dX3_isPattern_27 ?_
      refine y_ireturn E F rfl rfl dX3_isPattern_28 (by omega) (by omega) ⟨(rF (by unfold patP; omega)), rfl⟩
    · refine y_iconst E dX3_isPattern_23 ?_
      refine y_goto (tgt := 28) E dX3_isPattern_24 (by decide) ?_
      refine y_ireturn E F rfl rfl dX3_isPattern_28 (by omega) (by omega) ⟨(rT (by unfold patP; omega)), rfl⟩
theorem m_light (hA : mA A) (hS : SH (T 5)) (hU : UT (T 5)) (hc : 0 ≤ T 9 0 ∧ T 9 0 ≤ 8) (hf : 0 ≤ T 10 0 ∧ T 10 0 ≤ 7) {t : Int} (ht : inR t) : Ct_X3_light Γ 9 0 0 [.ref (A 0), .int (iI (t))] (mH A T G) (fun v G' => v = some (.int (iI ((o_light T t).1))) ∧ G' = mH A ((o_light T t).2) G) noX := by
  refine y_start (lv0 := [some (.ref (A 0)), some (.int (iI (t)))]) (nm := "light") (own := RX3) (by decide +kernel) rfl rfl (by exact Nat.le_of_ble_eq_true rfl) (by rfl) ?_
  intro Z Q E F
  have hn := hS.nt
  first | refine y_ald_n E dX3_light_0 (by rfl) ?_ | refine y_aload_n E dX3_light_0 (by rfl) ?_
  refine y_iconst E dX3_light_1 ?_
  refine y_put E dX3_light_2 fl_X3_51_X3 fw_X3_0 rfl (by rfl) (m_o hA _ _) (Nat.le_of_ble_eq_true rfl) ?_
  refine y_heap (m_p0 hA) ?_
  first | refine y_ald_n E dX3_light_5 (by rfl) ?_ | refine y_aload_n E dX3_light_5 (by rfl) ?_
  refine y_iload_n E dX3_light_6 (by rfl) ?_
  refine y_callV E dX3_light_7 lk_X3_148 (m_isTower hA ?_ ?_) (by rfl) (m_o hA _ _) rfl (by decide) (by omega) (by omega) rfl (Nat.le_of_ble_eq_true rfl) ?_ (fun _ _ _ h => h.elim)
  · exact hS
  · first | omega | (simp (decide := true) only [upN_s, upN_n, upN_upN, upN_id] <;> omega)
  rintro _ _ ⟨rfl, rfl⟩
  try simp (decide := true) only [upN_s, upN_n, upN_upN, upN_id]
  refine y_ifd_ne (tgt := 19) E dX3_light_10 (by decide) (fun h10 => ?_) (fun h10 => ?_)
  · first | refine y_ald_n E dX3_light_19 (by rfl) ?_ | refine y_aload_n E dX3_light_19 (by rfl) ?_
    refine y_iload_n E dX3_light_20 (by rfl) ?_
    refine y_callV E dX3_light_21 lk_X3_171 (m_mayNotLight hA ?_ ?_ ?_) (by rfl) (m_o hA _ _) rfl (by decide) (by omega) (by omega) rfl (Nat.le_of_ble_eq_true rfl) ?_ (fun _ _ _ h => h.elim)
    · exact hS
    · exact hU
    · first | omega | (simp (decide := true) only [upN_s, upN_n, upN_upN, upN_id] <;> omega)
    rintro _ _ ⟨rfl, rfl⟩
    try simp (decide := true) only [upN_s, upN_n, upN_upN, upN_id]
    refine y_ifd_eq (tgt := 33) E dX3_light_24 (by decide) (fun h24 => ?_) (fun h24 => ?_)
    · rw [hinO_n h24]
      first | refine y_ald_n E dX3_light_33 (by rfl) ?_ | refine y_aload_n E dX3_light_33 (by rfl) ?_
      have hS2 := hS.t4 (t := t) (v := 1) (by omega) (by omega)
      have hU2 := UT_up (v := 1) hU (show 0 ≤ (4 : Int) ∧ 4 < 6 by omega) (show 0 ≤ t by omega)
      have hS3 := (stlS_ok hS2 hU2).1
      refine y_callV E dX3_light_34 lk_X3_138 (m_notes hA) (by rfl) (m_o hA _ _) rfl (by decide) (by omega) (by omega) rfl (Nat.le_of_ble_eq_true rfl) ?_ (fun _ _ _ h => h.elim)
      rintro _ _ ⟨rfl, rfl⟩
      try simp (decide := true) only [upN_s, upN_n, upN_upN, upN_id]
      first | refine y_ald_n E dX3_light_37 (by rfl) ?_ | refine y_aload_n E dX3_light_37 (by rfl) ?_
      refine y_get E dX3_light_38 fl_X3_13_X3 (m_o hA _ _) (by rfl) ?_
      refine y_iload_n E dX3_light_41 (by rfl) ?_
      refine y_iconst E dX3_light_42 ?_
      refine y_callS E dX3_light_43 lk_X3_73 (m_towerAt) (by rfl) (by decide) (by omega) (by omega) rfl (Nat.le_of_ble_eq_true rfl) ?_ (fun _ _ _ h => h.elim)
      rintro _ _ ⟨rfl, rfl⟩
      refine y_iconst E dX3_light_46 ?_
      refine y_iast E dX3_light_47 (m_r5 hA _ _) (by omega) ?_
      refine y_heap (m_w5 hA) ?_
      try simp (decide := true) only [upN_s, upN_n, upN_upN, upN_id]
      first | refine y_ald_n E dX3_light_48 (by rfl) ?_ | refine y_aload_n E dX3_light_48 (by rfl) ?_
      refine y_callV E dX3_light_49 lk_X3_141 (m_isDone hA ?_ ?_ ?_ ?_) (by rfl) (m_o hA _ _) rfl (by decide) (by omega) (by omega) rfl (Nat.le_of_ble_eq_true rfl) ?_ (fun _ _ _ h => h.elim)
      · exact hS2
      · exact hU2
      · first | omega | (simp (decide := true) only [upN_s, upN_n, upN_upN, upN_id] <;> omega)
      · first | omega | (simp (decide := true) only [upN_s, upN_n, upN_upN, upN_id] <;> omega)
      rintro _ _ ⟨rfl, rfl⟩
      try simp (decide := true) only [upN_s, upN_n, upN_upN, upN_id]
      first | refine y_ald_n E dX3_light_52 (by rfl) ?_ | refine y_aload_n E dX3_light_52 (by rfl) ?_
      refine y_callV E dX3_light_53 lk_X3_174 (m_litOnes hA ?_) (by rfl) (m_o hA _ _) rfl (by decide) (by omega) (by omega) rfl (Nat.le_of_ble_eq_true rfl) ?_ (fun _ _ _ h => h.elim)
      · exact hS3
      rintro _ _ ⟨rfl, rfl⟩
      try simp (decide := true) only [upN_s, upN_n, upN_upN, upN_id]
      refine y_ireturn E F rfl rfl dX3_light_56 (by omega) (by omega) (by rw [show o_light T t = (litN (stlS (upI (T 5) (25 + 8 * t + 4) 1)), chgT T (upI (T 5) (25 + 8 * t + 4) 1)) from by unfold o_light; rw [if_neg (by rw [dB_t h10]; decide), if_neg h24]]; exact ⟨rfl, rfl⟩)
    · first | refine y_ald_n E dX3_light_27 (by rfl) ?_ | refine y_aload_n E dX3_light_27 (by rfl) ?_
      refine y_iconst E dX3_light_28 ?_
      refine y_callV E dX3_light_29 lk_X3_135 (m_refuses hA) (by rfl) (m_o hA _ _) rfl (by decide) (by omega) (by omega) rfl (Nat.le_of_ble_eq_true rfl) ?_ (fun _ _ _ h => h.elim)
      rintro _ _ ⟨rfl, rfl⟩
      try simp (decide := true) only [upN_s, upN_n, upN_upN, upN_id]
      refine y_ireturn E F rfl rfl dX3_light_32 (by omega) (by omega) (by rw [show o_light T t = (0, rfuT T (whyLit (T 5) t) 2) from by unfold o_light; rw [if_neg (by rw [dB_t h10]; decide), if_pos h24]]; exact ⟨rfl, rfl⟩)
  · first | refine y_ald_n E dX3_light_13 (by rfl) ?_ | refine y_aload_n E dX3_light_13 (by rfl) ?_
    refine y_iconst E dX3_light_14 ?_
    refine y_callV E dX3_light_15 lk_X3_63 (m_fails hA) (by rfl) (m_o hA _ _) rfl (by decide) (by omega) (by omega) rfl (Nat.le_of_ble_eq_true rfl) ?_ (fun _ _ _ h => h.elim)
    rintro _ _ ⟨rfl, rfl⟩
    try simp (decide := true) only [upN_s, upN_n, upN_upN, upN_id]
    refine y_ireturn E F rfl rfl dX3_light_18 (by omega) (by omega) (by rw [show o_light T t = (0, failT T 1) from by unfold o_light; rw [if_pos (dB_f h10)]]; exact ⟨rfl, rfl⟩)
theorem m_darken (hA : mA A) (hS : SH (T 5)) (hU : UT (T 5)) (hc : 0 ≤ T 9 0 ∧ T 9 0 ≤ 8) (hf : 0 ≤ T 10 0 ∧ T 10 0 ≤ 7) {t : Int} (ht : inR t) : Ct_X3_darken Γ 9 0 0 [.ref (A 0), .int (iI (t))] (mH A T G) (fun v G' => v = some (.int (iI ((o_darken T t).1))) ∧ G' = mH A ((o_darken T t).2) G) noX := by
  refine y_start (lv0 := [some (.ref (A 0)), some (.int (iI (t)))]) (nm := "darken") (own := RX3) (by decide +kernel) rfl rfl (by exact Nat.le_of_ble_eq_true rfl) (by rfl) ?_
  intro Z Q E F
  have hn := hS.nt
  first | refine y_ald_n E dX3_darken_0 (by rfl) ?_ | refine y_aload_n E dX3_darken_0 (by rfl) ?_
  refine y_iconst E dX3_darken_1 ?_
  refine y_put E dX3_darken_2 fl_X3_51_X3 fw_X3_0 rfl (by rfl) (m_o hA _ _) (Nat.le_of_ble_eq_true rfl) ?_
  refine y_heap (m_p0 hA) ?_
  first | refine y_ald_n E dX3_darken_5 (by rfl) ?_ | refine y_aload_n E dX3_darken_5 (by rfl) ?_
  refine y_iload_n E dX3_darken_6 (by rfl) ?_
  refine y_callV E dX3_darken_7 lk_X3_148 (m_isTower hA ?_ ?_) (by rfl) (m_o hA _ _) rfl (by decide) (by omega) (by omega) rfl (Nat.le_of_ble_eq_true rfl) ?_ (fun _ _ _ h => h.elim)
  · exact hS
  · first | omega | (simp (decide := true) only [upN_s, upN_n, upN_upN, upN_id] <;> omega)
  rintro _ _ ⟨rfl, rfl⟩
  try simp (decide := true) only [upN_s, upN_n, upN_upN, upN_id]
  refine y_ifd_ne (tgt := 19) E dX3_darken_10 (by decide) (fun h10 => ?_) (fun h10 => ?_)
  · first | refine y_ald_n E dX3_darken_19 (by rfl) ?_ | refine y_aload_n E dX3_darken_19 (by rfl) ?_
    refine y_iload_n E dX3_darken_20 (by rfl) ?_
    refine y_callV E dX3_darken_21 lk_X3_177 (m_mayNotDarken hA ?_ ?_) (by rfl) (m_o hA _ _) rfl (by decide) (by omega) (by omega) rfl (Nat.le_of_ble_eq_true rfl) ?_ (fun _ _ _ h => h.elim)
    · exact hS
    · first | omega | (simp (decide := true) only [upN_s, upN_n, upN_upN, upN_id] <;> omega)
    rintro _ _ ⟨rfl, rfl⟩
    try simp (decide := true) only [upN_s, upN_n, upN_upN, upN_id]
    refine y_ifd_eq (tgt := 33) E dX3_darken_24 (by decide) (fun h24 => ?_) (fun h24 => ?_)
    · rw [hinO_n h24]
      first | refine y_ald_n E dX3_darken_33 (by rfl) ?_ | refine y_aload_n E dX3_darken_33 (by rfl) ?_
      have hS2 := hS.t4 (t := t) (v := 0) (by omega) (by omega)
      have hU2 := UT_up (v := 0) hU (show 0 ≤ (4 : Int) ∧ 4 < 6 by omega) (show 0 ≤ t by omega)
      have hS3 := (stlS_ok hS2 hU2).1
      refine y_callV E dX3_darken_34 lk_X3_138 (m_notes hA) (by rfl) (m_o hA _ _) rfl (by decide) (by omega) (by omega) rfl (Nat.le_of_ble_eq_true rfl) ?_ (fun _ _ _ h => h.elim)
      rintro _ _ ⟨rfl, rfl⟩
      try simp (decide := true) only [upN_s, upN_n, upN_upN, upN_id]
      first | refine y_ald_n E dX3_darken_37 (by rfl) ?_ | refine y_aload_n E dX3_darken_37 (by rfl) ?_
      refine y_get E dX3_darken_38 fl_X3_13_X3 (m_o hA _ _) (by rfl) ?_
      refine y_iload_n E dX3_darken_41 (by rfl) ?_
      refine y_iconst E dX3_darken_42 ?_
      refine y_callS E dX3_darken_43 lk_X3_73 (m_towerAt) (by rfl) (by decide) (by omega) (by omega) rfl (Nat.le_of_ble_eq_true rfl) ?_ (fun _ _ _ h => h.elim)
      rintro _ _ ⟨rfl, rfl⟩
      refine y_iconst E dX3_darken_46 ?_
      refine y_iast E dX3_darken_47 (m_r5 hA _ _) (by omega) ?_
      refine y_heap (m_w5 hA) ?_
      try simp (decide := true) only [upN_s, upN_n, upN_upN, upN_id]
      first | refine y_ald_n E dX3_darken_48 (by rfl) ?_ | refine y_aload_n E dX3_darken_48 (by rfl) ?_
      refine y_callV E dX3_darken_49 lk_X3_141 (m_isDone hA ?_ ?_ ?_ ?_) (by rfl) (m_o hA _ _) rfl (by decide) (by omega) (by omega) rfl (Nat.le_of_ble_eq_true rfl) ?_ (fun _ _ _ h => h.elim)
      · exact hS2
      · exact hU2
      · first | omega | (simp (decide := true) only [upN_s, upN_n, upN_upN, upN_id] <;> omega)
      · first | omega | (simp (decide := true) only [upN_s, upN_n, upN_upN, upN_id] <;> omega)
      rintro _ _ ⟨rfl, rfl⟩
      try simp (decide := true) only [upN_s, upN_n, upN_upN, upN_id]
      first | refine y_ald_n E dX3_darken_52 (by rfl) ?_ | refine y_aload_n E dX3_darken_52 (by rfl) ?_
      refine y_callV E dX3_darken_53 lk_X3_174 (m_litOnes hA ?_) (by rfl) (m_o hA _ _) rfl (by decide) (by omega) (by omega) rfl (Nat.le_of_ble_eq_true rfl) ?_ (fun _ _ _ h => h.elim)
      · exact hS3
      rintro _ _ ⟨rfl, rfl⟩
      try simp (decide := true) only [upN_s, upN_n, upN_upN, upN_id]
      refine y_ireturn E F rfl rfl dX3_darken_56 (by omega) (by omega) (by rw [show o_darken T t = (litN (stlS (upI (T 5) (25 + 8 * t + 4) 0)), chgT T (upI (T 5) (25 + 8 * t + 4) 0)) from by unfold o_darken; rw [if_neg (by rw [dB_t h10]; decide), if_neg h24]]; exact ⟨rfl, rfl⟩)
    · first | refine y_ald_n E dX3_darken_27 (by rfl) ?_ | refine y_aload_n E dX3_darken_27 (by rfl) ?_
      refine y_iconst E dX3_darken_28 ?_
      refine y_callV E dX3_darken_29 lk_X3_135 (m_refuses hA) (by rfl) (m_o hA _ _) rfl (by decide) (by omega) (by omega) rfl (Nat.le_of_ble_eq_true rfl) ?_ (fun _ _ _ h => h.elim)
      rintro _ _ ⟨rfl, rfl⟩
      try simp (decide := true) only [upN_s, upN_n, upN_upN, upN_id]
      refine y_ireturn E F rfl rfl dX3_darken_32 (by omega) (by omega) (by rw [show o_darken T t = (0, rfuT T (whyDark (T 5) t) 2) from by unfold o_darken; rw [if_neg (by rw [dB_t h10]; decide), if_pos h24]]; exact ⟨rfl, rfl⟩)
  · first | refine y_ald_n E dX3_darken_13 (by rfl) ?_ | refine y_aload_n E dX3_darken_13 (by rfl) ?_
    refine y_iconst E dX3_darken_14 ?_
    refine y_callV E dX3_darken_15 lk_X3_63 (m_fails hA) (by rfl) (m_o hA _ _) rfl (by decide) (by omega) (by omega) rfl (Nat.le_of_ble_eq_true rfl) ?_ (fun _ _ _ h => h.elim)
    rintro _ _ ⟨rfl, rfl⟩
    try simp (decide := true) only [upN_s, upN_n, upN_upN, upN_id]
    refine y_ireturn E F rfl rfl dX3_darken_18 (by omega) (by omega) (by rw [show o_darken T t = (0, failT T 1) from by unfold o_darken; rw [if_pos (dB_f h10)]]; exact ⟨rfl, rfl⟩)
theorem m_mend (hA : mA A) (hS : SH (T 5)) (hU : UT (T 5)) (hc : 0 ≤ T 9 0 ∧ T 9 0 ≤ 8) (hf : 0 ≤ T 10 0 ∧ T 10 0 ≤ 7) {t : Int} (ht : inR t) : Ct_X3_mend Γ 9 0 0 [.ref (A 0), .int (iI (t))] (mH A T G) (fun v G' => v = some (.int (iI ((o_mend T t).1))) ∧ G' = mH A ((o_mend T t).2) G) noX := by
  refine y_start (lv0 := [some (.ref (A 0)), some (.int (iI (t)))]) (nm := "mend") (own := RX3) (by decide +kernel) rfl rfl (by exact Nat.le_of_ble_eq_true rfl) (by rfl) ?_
  intro Z Q E F
  have hn := hS.nt
  first | refine y_ald_n E dX3_mend_0 (by rfl) ?_ | refine y_aload_n E dX3_mend_0 (by rfl) ?_
  refine y_iconst E dX3_mend_1 ?_
  refine y_put E dX3_mend_2 fl_X3_51_X3 fw_X3_0 rfl (by rfl) (m_o hA _ _) (Nat.le_of_ble_eq_true rfl) ?_
  refine y_heap (m_p0 hA) ?_
  first | refine y_ald_n E dX3_mend_5 (by rfl) ?_ | refine y_aload_n E dX3_mend_5 (by rfl) ?_
  refine y_iload_n E dX3_mend_6 (by rfl) ?_
  refine y_callV E dX3_mend_7 lk_X3_148 (m_isTower hA ?_ ?_) (by rfl) (m_o hA _ _) rfl (by decide) (by omega) (by omega) rfl (Nat.le_of_ble_eq_true rfl) ?_ (fun _ _ _ h => h.elim)
  · exact hS
  · first | omega | (simp (decide := true) only [upN_s, upN_n, upN_upN, upN_id] <;> omega)
  rintro _ _ ⟨rfl, rfl⟩
  try simp (decide := true) only [upN_s, upN_n, upN_upN, upN_id]
  refine y_ifd_ne (tgt := 19) E dX3_mend_10 (by decide) (fun h10 => ?_) (fun h10 => ?_)
  · first | refine y_ald_n E dX3_mend_19 (by rfl) ?_ | refine y_aload_n E dX3_mend_19 (by rfl) ?_
    refine y_iload_n E dX3_mend_20 (by rfl) ?_
    refine y_callV E dX3_mend_21 lk_X3_186 (m_mayNotMend hA ?_ ?_) (by rfl) (m_o hA _ _) rfl (by decide) (by omega) (by omega) rfl (Nat.le_of_ble_eq_true rfl) ?_ (fun _ _ _ h => h.elim)
    · exact hS
    · first | omega | (simp (decide := true) only [upN_s, upN_n, upN_upN, upN_id] <;> omega)
    rintro _ _ ⟨rfl, rfl⟩
    try simp (decide := true) only [upN_s, upN_n, upN_upN, upN_id]
    refine y_ifd_eq (tgt := 33) E dX3_mend_24 (by decide) (fun h24 => ?_) (fun h24 => ?_)
    · rw [hinO_n h24]
      first | refine y_ald_n E dX3_mend_33 (by rfl) ?_ | refine y_aload_n E dX3_mend_33 (by rfl) ?_
      have hS2 := hS.t5 (t := t) (v := 0) (by omega) (by omega)
      have hU2 := UT_up (v := 0) hU (show 0 ≤ (5 : Int) ∧ 5 < 6 by omega) (show 0 ≤ t by omega)
      have hS3 := (stlS_ok hS2 hU2).1
      refine y_callV E dX3_mend_34 lk_X3_138 (m_notes hA) (by rfl) (m_o hA _ _) rfl (by decide) (by omega) (by omega) rfl (Nat.le_of_ble_eq_true rfl) ?_ (fun _ _ _ h => h.elim)
      rintro _ _ ⟨rfl, rfl⟩
      try simp (decide := true) only [upN_s, upN_n, upN_upN, upN_id]
      first | refine y_ald_n E dX3_mend_37 (by rfl) ?_ | refine y_aload_n E dX3_mend_37 (by rfl) ?_
      refine y_get E dX3_mend_38 fl_X3_13_X3 (m_o hA _ _) (by rfl) ?_
      refine y_iload_n E dX3_mend_41 (by rfl) ?_
      refine y_iconst E dX3_mend_42 ?_
      refine y_callS E dX3_mend_43 lk_X3_73 (m_towerAt) (by rfl) (by decide) (by omega) (by omega) rfl (Nat.le_of_ble_eq_true rfl) ?_ (fun _ _ _ h => h.elim)
      rintro _ _ ⟨rfl, rfl⟩
      refine y_iconst E dX3_mend_46 ?_
      refine y_iast E dX3_mend_47 (m_r5 hA _ _) (by omega) ?_
      refine y_heap (m_w5 hA) ?_
      try simp (decide := true) only [upN_s, upN_n, upN_upN, upN_id]
      first | refine y_ald_n E dX3_mend_48 (by rfl) ?_ | refine y_aload_n E dX3_mend_48 (by rfl) ?_
      refine y_callV E dX3_mend_49 lk_X3_141 (m_isDone hA ?_ ?_ ?_ ?_) (by rfl) (m_o hA _ _) rfl (by decide) (by omega) (by omega) rfl (Nat.le_of_ble_eq_true rfl) ?_ (fun _ _ _ h => h.elim)
      · exact hS2
      · exact hU2
      · first | omega | (simp (decide := true) only [upN_s, upN_n, upN_upN, upN_id] <;> omega)
      · first | omega | (simp (decide := true) only [upN_s, upN_n, upN_upN, upN_id] <;> omega)
      rintro _ _ ⟨rfl, rfl⟩
      try simp (decide := true) only [upN_s, upN_n, upN_upN, upN_id]
      first | refine y_ald_n E dX3_mend_52 (by rfl) ?_ | refine y_aload_n E dX3_mend_52 (by rfl) ?_
      refine y_callV E dX3_mend_53 lk_X3_189 (m_brokenOnes hA ?_) (by rfl) (m_o hA _ _) rfl (by decide) (by omega) (by omega) rfl (Nat.le_of_ble_eq_true rfl) ?_ (fun _ _ _ h => h.elim)
      · exact hS3
      rintro _ _ ⟨rfl, rfl⟩
      try simp (decide := true) only [upN_s, upN_n, upN_upN, upN_id]
      refine y_ireturn E F rfl rfl dX3_mend_56 (by omega) (by omega) (by rw [show o_mend T t = (brkN (stlS (upI (T 5) (25 + 8 * t + 5) 0)), chgT T (upI (T 5) (25 + 8 * t + 5) 0)) from by unfold o_mend; rw [if_neg (by rw [dB_t h10]; decide), if_neg h24]]; exact ⟨rfl, rfl⟩)
    · first | refine y_ald_n E dX3_mend_27 (by rfl) ?_ | refine y_aload_n E dX3_mend_27 (by rfl) ?_
      refine y_iconst E dX3_mend_28 ?_
      refine y_callV E dX3_mend_29 lk_X3_135 (m_refuses hA) (by rfl) (m_o hA _ _) rfl (by decide) (by omega) (by omega) rfl (Nat.le_of_ble_eq_true rfl) ?_ (fun _ _ _ h => h.elim)
      rintro _ _ ⟨rfl, rfl⟩
      try simp (decide := true) only [upN_s, upN_n, upN_upN, upN_id]
      refine y_ireturn E F rfl rfl dX3_mend_32 (by omega) (by omega) (by rw [show o_mend T t = (0, rfuT T (whyMended (T 5) t) 2) from by unfold o_mend; rw [if_neg (by rw [dB_t h10]; decide), if_pos h24]]; exact ⟨rfl, rfl⟩)
  · first | refine y_ald_n E dX3_mend_13 (by rfl) ?_ | refine y_aload_n E dX3_mend_13 (by rfl) ?_
    refine y_iconst E dX3_mend_14 ?_
    refine y_callV E dX3_mend_15 lk_X3_63 (m_fails hA) (by rfl) (m_o hA _ _) rfl (by decide) (by omega) (by omega) rfl (Nat.le_of_ble_eq_true rfl) ?_ (fun _ _ _ h => h.elim)
    rintro _ _ ⟨rfl, rfl⟩
    try simp (decide := true) only [upN_s, upN_n, upN_upN, upN_id]
    refine y_ireturn E F rfl rfl dX3_mend_18 (by omega) (by omega) (by rw [show o_mend T t = (0, failT T 1) from by unfold o_mend; rw [if_pos (dB_f h10)]]; exact ⟨rfl, rfl⟩)
theorem m_breakDown (hA : mA A) (hS : SH (T 5)) (hU : UT (T 5)) (hc : 0 ≤ T 9 0 ∧ T 9 0 ≤ 8) (hf : 0 ≤ T 10 0 ∧ T 10 0 ≤ 7) {t : Int} (ht : inR t) : Ct_X3_breakDown Γ 9 0 0 [.ref (A 0), .int (iI (t))] (mH A T G) (fun v G' => v = some (.int (iI ((o_breakDown T t).1))) ∧ G' = mH A ((o_breakDown T t).2) G) noX := by
  refine y_start (lv0 := [some (.ref (A 0)), some (.int (iI (t)))]) (nm := "breakDown") (own := RX3) (by decide +kernel) rfl rfl (by exact Nat.le_of_ble_eq_true rfl) (by rfl) ?_
  intro Z Q E F
  have hn := hS.nt
  first | refine y_ald_n E dX3_breakDown_0 (by rfl) ?_ | refine y_aload_n E dX3_breakDown_0 (by rfl) ?_
  refine y_iconst E dX3_breakDown_1 ?_
  refine y_put E dX3_breakDown_2 fl_X3_51_X3 fw_X3_0 rfl (by rfl) (m_o hA _ _) (Nat.le_of_ble_eq_true rfl) ?_
  refine y_heap (m_p0 hA) ?_
  first | refine y_ald_n E dX3_breakDown_5 (by rfl) ?_ | refine y_aload_n E dX3_breakDown_5 (by rfl) ?_
  refine y_iload_n E dX3_breakDown_6 (by rfl) ?_
  refine y_callV E dX3_breakDown_7 lk_X3_148 (m_isTower hA ?_ ?_) (by rfl) (m_o hA _ _) rfl (by decide) (by omega) (by omega) rfl (Nat.le_of_ble_eq_true rfl) ?_ (fun _ _ _ h => h.elim)
  · exact hS
  · first | omega | (simp (decide := true) only [upN_s, upN_n, upN_upN, upN_id] <;> omega)
  rintro _ _ ⟨rfl, rfl⟩
  try simp (decide := true) only [upN_s, upN_n, upN_upN, upN_id]
  refine y_ifd_ne (tgt := 19) E dX3_breakDown_10 (by decide) (fun h10 => ?_) (fun h10 => ?_)
  · first | refine y_ald_n E dX3_breakDown_19 (by rfl) ?_ | refine y_aload_n E dX3_breakDown_19 (by rfl) ?_
    refine y_iload_n E dX3_breakDown_20 (by rfl) ?_
    refine y_callV E dX3_breakDown_21 lk_X3_180 (m_mayNotBreak hA ?_ ?_) (by rfl) (m_o hA _ _) rfl (by decide) (by omega) (by omega) rfl (Nat.le_of_ble_eq_true rfl) ?_ (fun _ _ _ h => h.elim)
    · exact hS
    · first | omega | (simp (decide := true) only [upN_s, upN_n, upN_upN, upN_id] <;> omega)
    rintro _ _ ⟨rfl, rfl⟩
    try simp (decide := true) only [upN_s, upN_n, upN_upN, upN_id]
    refine y_ifd_eq (tgt := 33) E dX3_breakDown_24 (by decide) (fun h24 => ?_) (fun h24 => ?_)
    · rw [hinO_n h24]
      first | refine y_ald_n E dX3_breakDown_33 (by rfl) ?_ | refine y_aload_n E dX3_breakDown_33 (by rfl) ?_
      have hS2 := hS.brk (t := t) (by omega)
      have hU2 := UT.brk hU (show 0 ≤ t by omega)
      have hS3 := (stlS_ok hS2 hU2).1
      refine y_callV E dX3_breakDown_34 lk_X3_138 (m_notes hA) (by rfl) (m_o hA _ _) rfl (by decide) (by omega) (by omega) rfl (Nat.le_of_ble_eq_true rfl) ?_ (fun _ _ _ h => h.elim)
      rintro _ _ ⟨rfl, rfl⟩
      try simp (decide := true) only [upN_s, upN_n, upN_upN, upN_id]
      first | refine y_ald_n E dX3_breakDown_37 (by rfl) ?_ | refine y_aload_n E dX3_breakDown_37 (by rfl) ?_
      refine y_iload_n E dX3_breakDown_38 (by rfl) ?_
      refine y_callV E dX3_breakDown_39 lk_X3_183 (m_breaks hA ?_) (by rfl) (m_o hA _ _) rfl (by decide) (by omega) (by omega) rfl (Nat.le_of_ble_eq_true rfl) ?_ (fun _ _ _ h => h.elim)
      · first | omega | (simp (decide := true) only [upN_s, upN_n, upN_upN, upN_id] <;> omega)
      rintro _ _ ⟨rfl, rfl⟩
      try simp (decide := true) only [upN_s, upN_n, upN_upN, upN_id]
      first | refine y_ald_n E dX3_breakDown_42 (by rfl) ?_ | refine y_aload_n E dX3_breakDown_42 (by rfl) ?_
      refine y_callV E dX3_breakDown_43 lk_X3_141 (m_isDone hA ?_ ?_ ?_ ?_) (by rfl) (m_o hA _ _) rfl (by decide) (by omega) (by omega) rfl (Nat.le_of_ble_eq_true rfl) ?_ (fun _ _ _ h => h.elim)
      · exact hS2
      · exact hU2
      · first | omega | (simp (decide := true) only [upN_s, upN_n, upN_upN, upN_id] <;> omega)
      · first | omega | (simp (decide := true) only [upN_s, upN_n, upN_upN, upN_id] <;> omega)
      rintro _ _ ⟨rfl, rfl⟩
      try simp (decide := true) only [upN_s, upN_n, upN_upN, upN_id]
      first | refine y_ald_n E dX3_breakDown_46 (by rfl) ?_ | refine y_aload_n E dX3_breakDown_46 (by rfl) ?_
      refine y_callV E dX3_breakDown_47 lk_X3_174 (m_litOnes hA ?_) (by rfl) (m_o hA _ _) rfl (by decide) (by omega) (by omega) rfl (Nat.le_of_ble_eq_true rfl) ?_ (fun _ _ _ h => h.elim)
      · exact hS3
      rintro _ _ ⟨rfl, rfl⟩
      try simp (decide := true) only [upN_s, upN_n, upN_upN, upN_id]
      refine y_ireturn E F rfl rfl dX3_breakDown_50 (by omega) (by omega) (by rw [show o_breakDown T t = (litN (stlS (brkS (T 5) t)), chgT T (brkS (T 5) t)) from by unfold o_breakDown; rw [if_neg (by rw [dB_t h10]; decide), if_neg h24]]; exact ⟨rfl, rfl⟩)
    · first | refine y_ald_n E dX3_breakDown_27 (by rfl) ?_ | refine y_aload_n E dX3_breakDown_27 (by rfl) ?_
      refine y_iconst E dX3_breakDown_28 ?_
      refine y_callV E dX3_breakDown_29 lk_X3_135 (m_refuses hA) (by rfl) (m_o hA _ _) rfl (by decide) (by omega) (by omega) rfl (Nat.le_of_ble_eq_true rfl) ?_ (fun _ _ _ h => h.elim)
      rintro _ _ ⟨rfl, rfl⟩
      try simp (decide := true) only [upN_s, upN_n, upN_upN, upN_id]
      refine y_ireturn E F rfl rfl dX3_breakDown_32 (by omega) (by omega) (by rw [show o_breakDown T t = (0, rfuT T (whyBroken (T 5) t) 2) from by unfold o_breakDown; rw [if_neg (by rw [dB_t h10]; decide), if_pos h24]]; exact ⟨rfl, rfl⟩)
  · first | refine y_ald_n E dX3_breakDown_13 (by rfl) ?_ | refine y_aload_n E dX3_breakDown_13 (by rfl) ?_
    refine y_iconst E dX3_breakDown_14 ?_
    refine y_callV E dX3_breakDown_15 lk_X3_63 (m_fails hA) (by rfl) (m_o hA _ _) rfl (by decide) (by omega) (by omega) rfl (Nat.le_of_ble_eq_true rfl) ?_ (fun _ _ _ h => h.elim)
    rintro _ _ ⟨rfl, rfl⟩
    try simp (decide := true) only [upN_s, upN_n, upN_upN, upN_id]
    refine y_ireturn E F rfl rfl dX3_breakDown_18 (by omega) (by omega) (by rw [show o_breakDown T t = (0, failT T 1) from by unfold o_breakDown; rw [if_pos (dB_f h10)]]; exact ⟨rfl, rfl⟩)
theorem m_fit (hA : mA A) (hS : SH (T 5)) (hU : UT (T 5)) (hc : 0 ≤ T 9 0 ∧ T 9 0 ≤ 8) (hf : 0 ≤ T 10 0 ∧ T 10 0 ≤ 7) {t : Int} (ht : inR t) : Ct_X3_fit Γ 9 0 0 [.ref (A 0), .int (iI (t))] (mH A T G) (fun v G' => v = some (.int (iI ((o_fit T t).1))) ∧ G' = mH A ((o_fit T t).2) G) noX := by
  refine y_start (lv0 := [some (.ref (A 0)), some (.int (iI (t))), none]) (nm := "fit") (own := RX3) (by decide +kernel) rfl rfl (by exact Nat.le_of_ble_eq_true rfl) (by rfl) ?_
  intro Z Q E F
  have hn := hS.nt
  first | refine y_ald_n E dX3_fit_0 (by rfl) ?_ | refine y_aload_n E dX3_fit_0 (by rfl) ?_
  refine y_iconst E dX3_fit_1 ?_
  refine y_put E dX3_fit_2 fl_X3_51_X3 fw_X3_0 rfl (by rfl) (m_o hA _ _) (Nat.le_of_ble_eq_true rfl) ?_
  refine y_heap (m_p0 hA) ?_
  first | refine y_ald_n E dX3_fit_5 (by rfl) ?_ | refine y_aload_n E dX3_fit_5 (by rfl) ?_
  refine y_iload_n E dX3_fit_6 (by rfl) ?_
  refine y_callV E dX3_fit_7 lk_X3_148 (m_isTower hA ?_ ?_) (by rfl) (m_o hA _ _) rfl (by decide) (by omega) (by omega) rfl (Nat.le_of_ble_eq_true rfl) ?_ (fun _ _ _ h => h.elim)
  · exact hS
  · first | omega | (simp (decide := true) only [upN_s, upN_n, upN_upN, upN_id] <;> omega)
  rintro _ _ ⟨rfl, rfl⟩
  try simp (decide := true) only [upN_s, upN_n, upN_upN, upN_id]
  refine y_ifd_ne (tgt := 19) E dX3_fit_10 (by decide) (fun h10 => ?_) (fun h10 => ?_)
  · first | refine y_ald_n E dX3_fit_19 (by rfl) ?_ | refine y_aload_n E dX3_fit_19 (by rfl) ?_
    refine y_callV E dX3_fit_20 lk_X3_164 (m_mayNotFit hA ?_) (by rfl) (m_o hA _ _) rfl (by decide) (by omega) (by omega) rfl (Nat.le_of_ble_eq_true rfl) ?_ (fun _ _ _ h => h.elim)
    · exact hS
    rintro _ _ ⟨rfl, rfl⟩
    try simp (decide := true) only [upN_s, upN_n, upN_upN, upN_id]
    refine y_ifd_eq (tgt := 32) E dX3_fit_23 (by decide) (fun h23 => ?_) (fun h23 => ?_)
    · rw [hinO_n h23]
      first | refine y_ald_n E dX3_fit_32 (by rfl) ?_ | refine y_aload_n E dX3_fit_32 (by rfl) ?_
      have h12 : 0 < T 5 12 := by
        have h1 := hS.ns
        have : T 5 12 ≠ 0 := fun e => h23 (by unfold whyFitted; rw [if_pos e]; rfl)
        omega
      have hS2 := hS.fit (t := t) (by omega) h12
      have hU2 := UT.fit (t := t) hS hU (by omega) h12
      refine y_callV E dX3_fit_33 lk_X3_138 (m_notes hA) (by rfl) (m_o hA _ _) rfl (by decide) (by omega) (by omega) rfl (Nat.le_of_ble_eq_true rfl) ?_ (fun _ _ _ h => h.elim)
      rintro _ _ ⟨rfl, rfl⟩
      try simp (decide := true) only [upN_s, upN_n, upN_upN, upN_id]
      first | refine y_ald_n E dX3_fit_36 (by rfl) ?_ | refine y_aload_n E dX3_fit_36 (by rfl) ?_
      refine y_iload_n E dX3_fit_37 (by rfl) ?_
      refine y_callV E dX3_fit_38 lk_X3_168 (m_fits hA ?_ ?_ ?_) (by rfl) (m_o hA _ _) rfl (by decide) (by omega) (by omega) rfl (Nat.le_of_ble_eq_true rfl) ?_ (fun _ _ _ h => h.elim)
      · exact hS
      · first | omega | (simp (decide := true) only [upN_s, upN_n, upN_upN, upN_id] <;> omega)
      · first | omega | (simp (decide := true) only [upN_s, upN_n, upN_upN, upN_id] <;> omega)
      rintro _ _ ⟨rfl, rfl⟩
      try simp (decide := true) only [upN_s, upN_n, upN_upN, upN_id]
      refine y_istore_n (j := 2) E dX3_fit_41 rfl (Nat.le_of_ble_eq_true rfl) ?_
      first | refine y_ald_n E dX3_fit_42 (by rfl) ?_ | refine y_aload_n E dX3_fit_42 (by rfl) ?_
      refine y_callV E dX3_fit_43 lk_X3_141 (m_isDone hA ?_ ?_ ?_ ?_) (by rfl) (m_o hA _ _) rfl (by decide) (by omega) (by omega) rfl (Nat.le_of_ble_eq_true rfl) ?_ (fun _ _ _ h => h.elim)
      · exact hS2
      · exact hU2
      · first | omega | (simp (decide := true) only [upN_s, upN_n, upN_upN, upN_id] <;> omega)
      · first | omega | (simp (decide := true) only [upN_s, upN_n, upN_upN, upN_id] <;> omega)
      rintro _ _ ⟨rfl, rfl⟩
      try simp (decide := true) only [upN_s, upN_n, upN_upN, upN_id]
      refine y_iload_n E dX3_fit_46 (by rfl) ?_
      refine y_ireturn E F rfl rfl dX3_fit_47 (by omega) (by omega) (by rw [show o_fit T t = (T 5 13, chgT T (fitS (T 5) t)) from by unfold o_fit; rw [if_neg (by rw [dB_t h10]; decide), if_neg h23]]; exact ⟨rfl, rfl⟩)
    · first | refine y_ald_n E dX3_fit_26 (by rfl) ?_ | refine y_aload_n E dX3_fit_26 (by rfl) ?_
      refine y_iconst E dX3_fit_27 ?_
      refine y_callV E dX3_fit_28 lk_X3_135 (m_refuses hA) (by rfl) (m_o hA _ _) rfl (by decide) (by omega) (by omega) rfl (Nat.le_of_ble_eq_true rfl) ?_ (fun _ _ _ h => h.elim)
      rintro _ _ ⟨rfl, rfl⟩
      try simp (decide := true) only [upN_s, upN_n, upN_upN, upN_id]
      refine y_ireturn E F rfl rfl dX3_fit_31 (by omega) (by omega) (by rw [show o_fit T t = (0, rfuT T (whyFitted (T 5)) 2) from by unfold o_fit; rw [if_neg (by rw [dB_t h10]; decide), if_pos h23]]; exact ⟨rfl, rfl⟩)
  · first | refine y_ald_n E dX3_fit_13 (by rfl) ?_ | refine y_aload_n E dX3_fit_13 (by rfl) ?_
    refine y_iconst E dX3_fit_14 ?_
    refine y_callV E dX3_fit_15 lk_X3_63 (m_fails hA) (by rfl) (m_o hA _ _) rfl (by decide) (by omega) (by omega) rfl (Nat.le_of_ble_eq_true rfl) ?_ (fun _ _ _ h => h.elim)
    rintro _ _ ⟨rfl, rfl⟩
    try simp (decide := true) only [upN_s, upN_n, upN_upN, upN_id]
    refine y_ireturn E F rfl rfl dX3_fit_18 (by omega) (by omega) (by rw [show o_fit T t = (0, failT T 1) from by unfold o_fit; rw [if_pos (dB_f h10)]]; exact ⟨rfl, rfl⟩)
theorem m_fog (hA : mA A) (hS : SH (T 5)) (hU : UT (T 5)) (hc : 0 ≤ T 9 0 ∧ T 9 0 ≤ 8) (hf : 0 ≤ T 10 0 ∧ T 10 0 ≤ 7) {s f : Int} (hs : inR s) (hff : inR f) : Ct_X3_fog Γ 9 0 0 [.ref (A 0), .int (iI (s)), .int (iI (f))] (mH A T G) (fun v G' => v = some (.int (iI ((o_fog T s f).1))) ∧ G' = mH A ((o_fog T s f).2) G) noX := by
  refine y_start (lv0 := [some (.ref (A 0)), some (.int (iI (s))), some (.int (iI (f))), none]) (nm := "fog") (own := RX3) (by decide +kernel) rfl rfl (by exact Nat.le_of_ble_eq_true rfl) (by rfl) ?_
  intro Z Q E F
  first | refine y_ald_n E dX3_fog_0 (by rfl) ?_ | refine y_aload_n E dX3_fog_0 (by rfl) ?_
  refine y_iconst E dX3_fog_1 ?_
  refine y_put E dX3_fog_2 fl_X3_51_X3 fw_X3_0 rfl (by rfl) (m_o hA _ _) (Nat.le_of_ble_eq_true rfl) ?_
  refine y_heap (m_p0 hA) ?_
  refine y_iload_n E dX3_fog_5 (by rfl) ?_
  refine y_iconst E dX3_fog_6 ?_
  refine y_bipush E dX3_fog_7 (by decide) ?_
  refine y_callS E dX3_fog_9 lk_X3_77 (m_isBetween ?_ ?_ ?_) (by rfl) (by decide) (by omega) (by omega) rfl (Nat.le_of_ble_eq_true rfl) ?_ (fun _ _ _ h => h.elim)
  · first | omega | (simp (decide := true) only [upN_s, upN_n, upN_upN, upN_id] <;> omega)
  · first | omega | (simp (decide := true) only [upN_s, upN_n, upN_upN, upN_id] <;> omega)
  · first | omega | (simp (decide := true) only [upN_s, upN_n, upN_upN, upN_id] <;> omega)
  rintro _ _ ⟨rfl, rfl⟩
  refine y_ifd_ne (tgt := 21) E dX3_fog_12 (by decide) (fun h12 => ?_) (fun h12 => ?_)
  · refine y_iload_n E dX3_fog_21 (by rfl) ?_
    refine y_iconst E dX3_fog_22 ?_
    refine y_bipush E dX3_fog_23 (by decide) ?_
    refine y_callS E dX3_fog_25 lk_X3_77 (m_isBetween ?_ ?_ ?_) (by rfl) (by decide) (by omega) (by omega) rfl (Nat.le_of_ble_eq_true rfl) ?_ (fun _ _ _ h => h.elim)
    · first | omega | (simp (decide := true) only [upN_s, upN_n, upN_upN, upN_id] <;> omega)
    · first | omega | (simp (decide := true) only [upN_s, upN_n, upN_upN, upN_id] <;> omega)
    · first | omega | (simp (decide := true) only [upN_s, upN_n, upN_upN, upN_id] <;> omega)
    rintro _ _ ⟨rfl, rfl⟩
    refine y_ifd_ne (tgt := 37) E dX3_fog_28 (by decide) (fun h28 => ?_) (fun h28 => ?_)
    · first | refine y_ald_n E dX3_fog_37 (by rfl) ?_ | refine y_aload_n E dX3_fog_37 (by rfl) ?_
      have hS2 := hS.up (k := 3 + s) (v := f) (fun _ _ => by unfold loB hiB; omega)
      have hU2 := UT_lo (k := 3 + s) (v := f) hU (by omega)
      refine y_callV E dX3_fog_38 lk_X3_138 (m_notes hA) (by rfl) (m_o hA _ _) rfl (by decide) (by omega) (by omega) rfl (Nat.le_of_ble_eq_true rfl) ?_ (fun _ _ _ h => h.elim)
      rintro _ _ ⟨rfl, rfl⟩
      try simp (decide := true) only [upN_s, upN_n, upN_upN, upN_id]
      first | refine y_ald_n E dX3_fog_41 (by rfl) ?_ | refine y_aload_n E dX3_fog_41 (by rfl) ?_
      refine y_get E dX3_fog_42 fl_X3_13_X3 (m_o hA _ _) (by rfl) ?_
      refine y_iconst E dX3_fog_45 ?_
      refine y_iload_n E dX3_fog_46 (by rfl) ?_
      refine y_iadd E dX3_fog_47 ?_
      refine y_iald E dX3_fog_48 (m_r5 hA _ _) (by omega) ?_
      try simp (decide := true) only [upN_s, upN_n, upN_upN, upN_id]
      refine y_istore_n (j := 3) E dX3_fog_49 rfl (Nat.le_of_ble_eq_true rfl) ?_
      first | refine y_ald_n E dX3_fog_50 (by rfl) ?_ | refine y_aload_n E dX3_fog_50 (by rfl) ?_
      refine y_get E dX3_fog_51 fl_X3_13_X3 (m_o hA _ _) (by rfl) ?_
      refine y_iconst E dX3_fog_54 ?_
      refine y_iload_n E dX3_fog_55 (by rfl) ?_
      refine y_iadd E dX3_fog_56 ?_
      refine y_iload_n E dX3_fog_57 (by rfl) ?_
      refine y_iast E dX3_fog_58 (m_r5 hA _ _) (by omega) ?_
      refine y_heap (m_w5 hA) ?_
      try simp (decide := true) only [upN_s, upN_n, upN_upN, upN_id]
      first | refine y_ald_n E dX3_fog_59 (by rfl) ?_ | refine y_aload_n E dX3_fog_59 (by rfl) ?_
      refine y_callV E dX3_fog_60 lk_X3_141 (m_isDone hA ?_ ?_ ?_ ?_) (by rfl) (m_o hA _ _) rfl (by decide) (by omega) (by omega) rfl (Nat.le_of_ble_eq_true rfl) ?_ (fun _ _ _ h => h.elim)
      · exact hS2
      · exact hU2
      · first | omega | (simp (decide := true) only [upN_s, upN_n, upN_upN, upN_id] <;> omega)
      · first | omega | (simp (decide := true) only [upN_s, upN_n, upN_upN, upN_id] <;> omega)
      rintro _ _ ⟨rfl, rfl⟩
      try simp (decide := true) only [upN_s, upN_n, upN_upN, upN_id]
      refine y_iload_n E dX3_fog_63 (by rfl) ?_
      refine y_ireturn E F rfl rfl dX3_fog_64 (by omega) (by omega) (by rw [show o_fog T s f = (T 5 (3 + s), chgT T (upI (T 5) (3 + s) f)) from by unfold o_fog; rw [if_neg (by rw [dB_t h12]; decide), if_neg (by rw [dB_t h28]; decide)]]; exact ⟨rfl, rfl⟩)
    · first | refine y_ald_n E dX3_fog_31 (by rfl) ?_ | refine y_aload_n E dX3_fog_31 (by rfl) ?_
      refine y_iconst E dX3_fog_32 ?_
      refine y_callV E dX3_fog_33 lk_X3_63 (m_fails hA) (by rfl) (m_o hA _ _) rfl (by decide) (by omega) (by omega) rfl (Nat.le_of_ble_eq_true rfl) ?_ (fun _ _ _ h => h.elim)
      rintro _ _ ⟨rfl, rfl⟩
      try simp (decide := true) only [upN_s, upN_n, upN_upN, upN_id]
      refine y_ireturn E F rfl rfl dX3_fog_36 (by omega) (by omega) (by rw [show o_fog T s f = (0, failT T 2) from by unfold o_fog; rw [if_neg (by rw [dB_t h12]; decide), if_pos (dB_f h28)]]; exact ⟨rfl, rfl⟩)
  · first | refine y_ald_n E dX3_fog_15 (by rfl) ?_ | refine y_aload_n E dX3_fog_15 (by rfl) ?_
    refine y_iconst E dX3_fog_16 ?_
    refine y_callV E dX3_fog_17 lk_X3_63 (m_fails hA) (by rfl) (m_o hA _ _) rfl (by decide) (by omega) (by omega) rfl (Nat.le_of_ble_eq_true rfl) ?_ (fun _ _ _ h => h.elim)
    rintro _ _ ⟨rfl, rfl⟩
    try simp (decide := true) only [upN_s, upN_n, upN_upN, upN_id]
    refine y_ireturn E F rfl rfl dX3_fog_20 (by omega) (by omega) (by rw [show o_fog T s f = (0, failT T 1) from by unfold o_fog; rw [if_pos (dB_f h12)]]; exact ⟨rfl, rfl⟩)
theorem m_pattern (hA : mA A) (hS : SH (T 5)) (hU : UT (T 5)) (hc : 0 ≤ T 9 0 ∧ T 9 0 ≤ 8) (hf : 0 ≤ T 10 0 ∧ T 10 0 ≤ 7) {t s m : Int} (ht : inR t) (hs : inR s) (hm : inR m) : Ct_X3_pattern Γ 9 0 0 [.ref (A 0), .int (iI (t)), .int (iI (s)), .int (iI (m))] (mH A T G) (fun v G' => v = some (.int (iI ((o_pattern T t s m).1))) ∧ G' = mH A ((o_pattern T t s m).2) G) noX := by
  refine y_start (lv0 := [some (.ref (A 0)), some (.int (iI (t))), some (.int (iI (s))), some (.int (iI (m))), none]) (nm := "pattern") (own := RX3) (by decide +kernel) rfl rfl (by exact Nat.le_of_ble_eq_true rfl) (by rfl) ?_
  intro Z Q E F
  have hn := hS.nt
  first | refine y_ald_n E dX3_pattern_0 (by rfl) ?_ | refine y_aload_n E dX3_pattern_0 (by rfl) ?_
  refine y_iconst E dX3_pattern_1 ?_
  refine y_put E dX3_pattern_2 fl_X3_51_X3 fw_X3_0 rfl (by rfl) (m_o hA _ _) (Nat.le_of_ble_eq_true rfl) ?_
  refine y_heap (m_p0 hA) ?_
  first | refine y_ald_n E dX3_pattern_5 (by rfl) ?_ | refine y_aload_n E dX3_pattern_5 (by rfl) ?_
  refine y_iload_n E dX3_pattern_6 (by rfl) ?_
  refine y_callV E dX3_pattern_7 lk_X3_148 (m_isTower hA ?_ ?_) (by rfl) (m_o hA _ _) rfl (by decide) (by omega) (by omega) rfl (Nat.le_of_ble_eq_true rfl) ?_ (fun _ _ _ h => h.elim)
  · exact hS
  · first | omega | (simp (decide := true) only [upN_s, upN_n, upN_upN, upN_id] <;> omega)
  rintro _ _ ⟨rfl, rfl⟩
  try simp (decide := true) only [upN_s, upN_n, upN_upN, upN_id]
  refine y_ifd_ne (tgt := 19) E dX3_pattern_10 (by decide) (fun h10 => ?_) (fun h10 => ?_)
  · refine y_iload_n E dX3_pattern_19 (by rfl) ?_
    refine y_iload_n E dX3_pattern_20 (by rfl) ?_
    refine y_callS E dX3_pattern_21 lk_X3_151 (m_isPattern ?_ ?_) (by rfl) (by decide) (by omega) (by omega) rfl (Nat.le_of_ble_eq_true rfl) ?_ (fun _ _ _ h => h.elim)
    · first | omega | (simp (decide := true) only [upN_s, upN_n, upN_upN, upN_id] <;> omega)
    · first | omega | (simp (decide := true) only [upN_s, upN_n, upN_upN, upN_id] <;> omega)
    rintro _ _ ⟨rfl, rfl⟩
    refine y_ifd_ne (tgt := 33) E dX3_pattern_24 (by decide) (fun h24 => ?_) (fun h24 => ?_)
    · first | refine y_ald_n E dX3_pattern_33 (by rfl) ?_ | refine y_aload_n E dX3_pattern_33 (by rfl) ?_
      have hS1 := hS.t (t := t) (by omega) (by omega)
      obtain ⟨g, hg⟩ : ∃ g : Nat, tw (T 5) t 6 = g := ⟨(tw (T 5) t 6).toNat, by omega⟩
      have hS2 := hS.pat (t := t) (by omega) h24
      have hU2 := UT.pat (t := t) hU (by omega) h24
      refine y_callV E dX3_pattern_34 lk_X3_138 (m_notes hA) (by rfl) (m_o hA _ _) rfl (by decide) (by omega) (by omega) rfl (Nat.le_of_ble_eq_true rfl) ?_ (fun _ _ _ h => h.elim)
      rintro _ _ ⟨rfl, rfl⟩
      try simp (decide := true) only [upN_s, upN_n, upN_upN, upN_id]
      first | refine y_ald_n E dX3_pattern_37 (by rfl) ?_ | refine y_aload_n E dX3_pattern_37 (by rfl) ?_
      refine y_iload_n E dX3_pattern_38 (by rfl) ?_
      refine y_bipush E dX3_pattern_39 (by decide) ?_
      refine y_callV E dX3_pattern_41 lk_X3_81 (m_ofTower hA ?_ ?_) (by rfl) (m_o hA _ _) rfl (by decide) (by omega) (by omega) rfl (Nat.le_of_ble_eq_true rfl) ?_ (fun _ _ _ h => h.elim)
      · first | omega | (simp (decide := true) only [upN_s, upN_n, upN_upN, upN_id] <;> omega)
      · first | omega | (simp (decide := true) only [upN_s, upN_n, upN_upN, upN_id] <;> omega)
      rintro _ _ ⟨rfl, rfl⟩
      try simp (decide := true) only [upN_s, upN_n, upN_upN, upN_id]
      rw [hg]
      refine y_callS E dX3_pattern_44 lk_X3_154 (m_bits ?_) (by rfl) (by decide) (by omega) (by omega) rfl (Nat.le_of_ble_eq_true rfl) ?_ (fun _ _ _ h => h.elim)
      · first | omega | (simp (decide := true) only [upN_s, upN_n, upN_upN, upN_id] <;> omega)
      rintro _ _ ⟨rfl, rfl⟩
      refine y_istore E dX3_pattern_47 (Nat.le_of_ble_eq_true rfl) ?_
      first | refine y_ald_n E dX3_pattern_49 (by rfl) ?_ | refine y_aload_n E dX3_pattern_49 (by rfl) ?_
      refine y_iload_n E dX3_pattern_50 (by rfl) ?_
      refine y_iload_n E dX3_pattern_51 (by rfl) ?_
      refine y_iload_n E dX3_pattern_52 (by rfl) ?_
      refine y_callV E dX3_pattern_53 lk_X3_157 (m_setsPattern hA ?_) (by rfl) (m_o hA _ _) rfl (by decide) (by omega) (by omega) rfl (Nat.le_of_ble_eq_true rfl) ?_ (fun _ _ _ h => h.elim)
      · first | omega | (simp (decide := true) only [upN_s, upN_n, upN_upN, upN_id] <;> omega)
      rintro _ _ ⟨rfl, rfl⟩
      try simp (decide := true) only [upN_s, upN_n, upN_upN, upN_id]
      first | refine y_ald_n E dX3_pattern_56 (by rfl) ?_ | refine y_aload_n E dX3_pattern_56 (by rfl) ?_
      refine y_callV E dX3_pattern_57 lk_X3_141 (m_isDone hA ?_ ?_ ?_ ?_) (by rfl) (m_o hA _ _) rfl (by decide) (by omega) (by omega) rfl (Nat.le_of_ble_eq_true rfl) ?_ (fun _ _ _ h => h.elim)
      · exact hS2
      · exact hU2
      · first | omega | (simp (decide := true) only [upN_s, upN_n, upN_upN, upN_id] <;> omega)
      · first | omega | (simp (decide := true) only [upN_s, upN_n, upN_upN, upN_id] <;> omega)
      rintro _ _ ⟨rfl, rfl⟩
      try simp (decide := true) only [upN_s, upN_n, upN_upN, upN_id]
      refine y_iload E dX3_pattern_60 (by rfl) ?_
      refine y_ireturn E F rfl rfl dX3_pattern_62 (by omega) (by omega) (by rw [show o_pattern T t s m = (((popS g : Nat) : Int), chgT T (patS (T 5) t s m)) from by unfold o_pattern; rw [if_neg (by rw [dB_t h10]; decide), if_neg (by rw [dB_t h24]; decide), hg, Int.toNat_natCast]]; exact ⟨rfl, rfl⟩)
    · first | refine y_ald_n E dX3_pattern_27 (by rfl) ?_ | refine y_aload_n E dX3_pattern_27 (by rfl) ?_
      refine y_iconst E dX3_pattern_28 ?_
      refine y_callV E dX3_pattern_29 lk_X3_63 (m_fails hA) (by rfl) (m_o hA _ _) rfl (by decide) (by omega) (by omega) rfl (Nat.le_of_ble_eq_true rfl) ?_ (fun _ _ _ h => h.elim)
      rintro _ _ ⟨rfl, rfl⟩
      try simp (decide := true) only [upN_s, upN_n, upN_upN, upN_id]
      refine y_ireturn E F rfl rfl dX3_pattern_32 (by omega) (by omega) (by rw [show o_pattern T t s m = (0, failT T 2) from by unfold o_pattern; rw [if_neg (by rw [dB_t h10]; decide), if_pos (dB_f h24)]]; exact ⟨rfl, rfl⟩)
  · first | refine y_ald_n E dX3_pattern_13 (by rfl) ?_ | refine y_aload_n E dX3_pattern_13 (by rfl) ?_
    refine y_iconst E dX3_pattern_14 ?_
    refine y_callV E dX3_pattern_15 lk_X3_63 (m_fails hA) (by rfl) (m_o hA _ _) rfl (by decide) (by omega) (by omega) rfl (Nat.le_of_ble_eq_true rfl) ?_ (fun _ _ _ h => h.elim)
    rintro _ _ ⟨rfl, rfl⟩
    try simp (decide := true) only [upN_s, upN_n, upN_upN, upN_id]
    refine y_ireturn E F rfl rfl dX3_pattern_18 (by omega) (by omega) (by rw [show o_pattern T t s m = (0, failT T 1) from by unfold o_pattern; rw [if_pos (dB_f h10)]]; exact ⟨rfl, rfl⟩)
theorem m_lens (hA : mA A) (hS : SH (T 5)) (hU : UT (T 5)) (hst : T 5 12 ≤ T 5 11) (hc : 0 ≤ T 9 0 ∧ T 9 0 ≤ 8) (hf : 0 ≤ T 10 0 ∧ T 10 0 ≤ 7) {p : Int} (hp : inR p) : Ct_X3_lens Γ 9 0 0 [.ref (A 0), .int (iI (p))] (mH A T G) (fun v G' => v = some (.int (iI ((o_lens T p).1))) ∧ G' = mH A ((o_lens T p).2) G) noX := by
  refine y_start (lv0 := [some (.ref (A 0)), some (.int (iI (p))), none]) (nm := "lens") (own := RX3) (by decide +kernel) rfl rfl (by exact Nat.le_of_ble_eq_true rfl) (by rfl) ?_
  intro Z Q E F
  have hn := hS.nl
  have hns := hS.ns
  first | refine y_ald_n E dX3_lens_0 (by rfl) ?_ | refine y_aload_n E dX3_lens_0 (by rfl) ?_
  refine y_iconst E dX3_lens_1 ?_
  refine y_put E dX3_lens_2 fl_X3_51_X3 fw_X3_0 rfl (by rfl) (m_o hA _ _) (Nat.le_of_ble_eq_true rfl) ?_
  refine y_heap (m_p0 hA) ?_
  refine y_iload_n E dX3_lens_5 (by rfl) ?_
  refine y_iconst E dX3_lens_6 ?_
  refine y_bipush E dX3_lens_7 (by decide) ?_
  refine y_callS E dX3_lens_9 lk_X3_77 (m_isBetween ?_ ?_ ?_) (by rfl) (by decide) (by omega) (by omega) rfl (Nat.le_of_ble_eq_true rfl) ?_ (fun _ _ _ h => h.elim)
  · first | omega | (simp (decide := true) only [upN_s, upN_n, upN_upN, upN_id] <;> omega)
  · first | omega | (simp (decide := true) only [upN_s, upN_n, upN_upN, upN_id] <;> omega)
  · first | omega | (simp (decide := true) only [upN_s, upN_n, upN_upN, upN_id] <;> omega)
  rintro _ _ ⟨rfl, rfl⟩
  refine y_ifd_ne (tgt := 21) E dX3_lens_12 (by decide) (fun h12 => ?_) (fun h12 => ?_)
  · first | refine y_ald_n E dX3_lens_21 (by rfl) ?_ | refine y_aload_n E dX3_lens_21 (by rfl) ?_
    refine y_get E dX3_lens_22 fl_X3_13_X3 (m_o hA _ _) (by rfl) ?_
    refine y_bipush E dX3_lens_25 (by decide) ?_
    refine y_iald E dX3_lens_27 (m_r5 hA _ _) (by omega) ?_
    try simp (decide := true) only [upN_s, upN_n, upN_upN, upN_id]
    refine y_bipush E dX3_lens_28 (by decide) ?_
    refine y_icmp_ne (tgt := 39) E dX3_lens_30 (by decide) (by omega) (by omega) (fun h30 => ?_) (fun h30 => ?_)
    · first | refine y_ald_n E dX3_lens_39 (by rfl) ?_ | refine y_aload_n E dX3_lens_39 (by rfl) ?_
      have hS2 := hS.len (p := p) (by omega) (by omega) (by omega)
      have hU2 := UT.len (p := p) hS hU (by omega) (by omega)
      have e12 : (upI (upI (upI (T 5) 11 (T 5 11 + 1)) (89 + 3 * T 5 11 + 0) p) (89 + 3 * T 5 11 + 1) p) 12 = T 5 12 := by rw [upI_n _ (by omega), upI_n _ (by omega), upI_n _ (by omega)]
      refine y_callV E dX3_lens_40 lk_X3_138 (m_notes hA) (by rfl) (m_o hA _ _) rfl (by decide) (by omega) (by omega) rfl (Nat.le_of_ble_eq_true rfl) ?_ (fun _ _ _ h => h.elim)
      rintro _ _ ⟨rfl, rfl⟩
      try simp (decide := true) only [upN_s, upN_n, upN_upN, upN_id]
      first | refine y_ald_n E dX3_lens_43 (by rfl) ?_ | refine y_aload_n E dX3_lens_43 (by rfl) ?_
      refine y_get E dX3_lens_44 fl_X3_13_X3 (m_o hA _ _) (by rfl) ?_
      refine y_bipush E dX3_lens_47 (by decide) ?_
      refine y_iald E dX3_lens_49 (m_r5 hA _ _) (by omega) ?_
      try simp (decide := true) only [upN_s, upN_n, upN_upN, upN_id]
      refine y_istore_n (j := 2) E dX3_lens_50 rfl (Nat.le_of_ble_eq_true rfl) ?_
      first | refine y_ald_n E dX3_lens_51 (by rfl) ?_ | refine y_aload_n E dX3_lens_51 (by rfl) ?_
      refine y_get E dX3_lens_52 fl_X3_13_X3 (m_o hA _ _) (by rfl) ?_
      refine y_bipush E dX3_lens_55 (by decide) ?_
      refine y_dup2 E dX3_lens_57 rfl rfl ?_
      refine y_iald E dX3_lens_58 (m_r5 hA _ _) (by omega) ?_
      try simp (decide := true) only [upN_s, upN_n, upN_upN, upN_id]
      refine y_iconst E dX3_lens_59 ?_
      refine y_iadd E dX3_lens_60 ?_
      refine y_iast E dX3_lens_61 (m_r5 hA _ _) (by omega) ?_
      refine y_heap (m_w5 hA) ?_
      try simp (decide := true) only [upN_s, upN_n, upN_upN, upN_id]
      first | refine y_ald_n E dX3_lens_62 (by rfl) ?_ | refine y_aload_n E dX3_lens_62 (by rfl) ?_
      refine y_get E dX3_lens_63 fl_X3_13_X3 (m_o hA _ _) (by rfl) ?_
      refine y_iload_n E dX3_lens_66 (by rfl) ?_
      refine y_iconst E dX3_lens_67 ?_
      refine y_callS E dX3_lens_68 lk_X3_84 (m_lensAt) (by rfl) (by decide) (by omega) (by omega) rfl (Nat.le_of_ble_eq_true rfl) ?_ (fun _ _ _ h => h.elim)
      rintro _ _ ⟨rfl, rfl⟩
      refine y_iload_n E dX3_lens_71 (by rfl) ?_
      refine y_iast E dX3_lens_72 (m_r5 hA _ _) (by omega) ?_
      refine y_heap (m_w5 hA) ?_
      try simp (decide := true) only [upN_s, upN_n, upN_upN, upN_id]
      first | refine y_ald_n E dX3_lens_73 (by rfl) ?_ | refine y_aload_n E dX3_lens_73 (by rfl) ?_
      refine y_get E dX3_lens_74 fl_X3_13_X3 (m_o hA _ _) (by rfl) ?_
      refine y_iload_n E dX3_lens_77 (by rfl) ?_
      refine y_iconst E dX3_lens_78 ?_
      refine y_callS E dX3_lens_79 lk_X3_84 (m_lensAt) (by rfl) (by decide) (by omega) (by omega) rfl (Nat.le_of_ble_eq_true rfl) ?_ (fun _ _ _ h => h.elim)
      rintro _ _ ⟨rfl, rfl⟩
      refine y_iload_n E dX3_lens_82 (by rfl) ?_
      refine y_iast E dX3_lens_83 (m_r5 hA _ _) (by omega) ?_
      refine y_heap (m_w5 hA) ?_
      try simp (decide := true) only [upN_s, upN_n, upN_upN, upN_id]
      first | refine y_ald_n E dX3_lens_84 (by rfl) ?_ | refine y_aload_n E dX3_lens_84 (by rfl) ?_
      refine y_iload_n E dX3_lens_85 (by rfl) ?_
      refine y_callV E dX3_lens_86 lk_X3_144 (m_stores hA ?_ ?_) (by rfl) (m_o hA _ _) rfl (by decide) (by omega) (by omega) rfl (Nat.le_of_ble_eq_true rfl) ?_ (fun _ _ _ h => h.elim)
      · omega
      · show 0 ≤ (upI (upI (upI (T 5) 11 (T 5 11 + 1)) (89 + 3 * T 5 11 + 0) p) (89 + 3 * T 5 11 + 1) p) 12 ∧ (upI (upI (upI (T 5) 11 (T 5 11 + 1)) (89 + 3 * T 5 11 + 0) p) (89 + 3 * T 5 11 + 1) p) 12 < 12; omega
      rintro _ _ ⟨rfl, rfl⟩
      try simp (decide := true) only [upN_s, upN_n, upN_upN, upN_id]
      first | refine y_ald_n E dX3_lens_89 (by rfl) ?_ | refine y_aload_n E dX3_lens_89 (by rfl) ?_
      refine y_callV E dX3_lens_90 lk_X3_141 (m_isDone hA ?_ ?_ ?_ ?_) (by rfl) (m_o hA _ _) rfl (by decide) (by omega) (by omega) rfl (Nat.le_of_ble_eq_true rfl) ?_ (fun _ _ _ h => h.elim)
      · exact hS2
      · exact hU2
      · first | omega | (simp (decide := true) only [upN_s, upN_n, upN_upN, upN_id] <;> omega)
      · first | omega | (simp (decide := true) only [upN_s, upN_n, upN_upN, upN_id] <;> omega)
      rintro _ _ ⟨rfl, rfl⟩
      try simp (decide := true) only [upN_s, upN_n, upN_upN, upN_id]
      refine y_iload_n E dX3_lens_93 (by rfl) ?_
      refine y_ireturn E F rfl rfl dX3_lens_94 (by omega) (by omega) (by rw [show o_lens T p = (T 5 11, chgT T (lenS (T 5) p)) from by unfold o_lens; rw [if_neg (by rw [dB_t h12]; decide), if_neg h30]]; exact ⟨rfl, rfl⟩)
    · first | refine y_ald_n E dX3_lens_33 (by rfl) ?_ | refine y_aload_n E dX3_lens_33 (by rfl) ?_
      refine y_iconst E dX3_lens_34 ?_
      refine y_callV E dX3_lens_35 lk_X3_63 (m_fails hA) (by rfl) (m_o hA _ _) rfl (by decide) (by omega) (by omega) rfl (Nat.le_of_ble_eq_true rfl) ?_ (fun _ _ _ h => h.elim)
      rintro _ _ ⟨rfl, rfl⟩
      try simp (decide := true) only [upN_s, upN_n, upN_upN, upN_id]
      refine y_ireturn E F rfl rfl dX3_lens_38 (by omega) (by omega) (by rw [show o_lens T p = (0, failT T 2) from by unfold o_lens; rw [if_neg (by rw [dB_t h12]; decide), if_pos h30]]; exact ⟨rfl, rfl⟩)
  · first | refine y_ald_n E dX3_lens_15 (by rfl) ?_ | refine y_aload_n E dX3_lens_15 (by rfl) ?_
    refine y_iconst E dX3_lens_16 ?_
    refine y_callV E dX3_lens_17 lk_X3_63 (m_fails hA) (by rfl) (m_o hA _ _) rfl (by decide) (by omega) (by omega) rfl (Nat.le_of_ble_eq_true rfl) ?_ (fun _ _ _ h => h.elim)
    rintro _ _ ⟨rfl, rfl⟩
    try simp (decide := true) only [upN_s, upN_n, upN_upN, upN_id]
    refine y_ireturn E F rfl rfl dX3_lens_20 (by omega) (by omega) (by rw [show o_lens T p = (0, failT T 1) from by unfold o_lens; rw [if_pos (dB_f h12)]]; exact ⟨rfl, rfl⟩)
theorem m_tower (hA : mA A) (hS : SH (T 5)) (hU : UT (T 5)) (hc : 0 ≤ T 9 0 ∧ T 9 0 ≤ 8) (hf : 0 ≤ T 10 0 ∧ T 10 0 ≤ 7) {p d k : Int} (hp : inR p) (hd : inR d) (hk : inR k) : Ct_X3_tower Γ 9 0 0 [.ref (A 0), .int (iI (p)), .int (iI (d)), .int (iI (k))] (mH A T G) (fun v G' => v = some (.int (iI ((o_tower T p d k).1))) ∧ G' = mH A ((o_tower T p d k).2) G) noX := by
  refine y_start (lv0 := [some (.ref (A 0)), some (.int (iI (p))), some (.int (iI (d))), some (.int (iI (k))), none]) (nm := "tower") (own := RX3) (by decide +kernel) rfl rfl (by exact Nat.le_of_ble_eq_true rfl) (by rfl) ?_
  intro Z Q E F
  have hn := hS.nt
  have hat := fst_or (fun t => tw (T 5) t 0 = p) hn.1
  first | refine y_ald_n E dX3_tower_0 (by rfl) ?_ | refine y_aload_n E dX3_tower_0 (by rfl) ?_
  refine y_iconst E dX3_tower_1 ?_
  refine y_put E dX3_tower_2 fl_X3_51_X3 fw_X3_0 rfl (by rfl) (m_o hA _ _) (Nat.le_of_ble_eq_true rfl) ?_
  refine y_heap (m_p0 hA) ?_
  refine y_iload_n E dX3_tower_5 (by rfl) ?_
  refine y_callS E dX3_tower_6 lk_X3_126 (m_isPlace ?_) (by rfl) (by decide) (by omega) (by omega) rfl (Nat.le_of_ble_eq_true rfl) ?_ (fun _ _ _ h => h.elim)
  · first | omega | (simp (decide := true) only [upN_s, upN_n, upN_upN, upN_id] <;> omega)
  rintro _ _ ⟨rfl, rfl⟩
  refine y_ifd_ne (tgt := 18) E dX3_tower_9 (by decide) (fun h9 => ?_) (fun h9 => ?_)
  · refine y_iload_n E dX3_tower_18 (by rfl) ?_
    refine y_iconst E dX3_tower_19 ?_
    refine y_iconst E dX3_tower_20 ?_
    refine y_callS E dX3_tower_21 lk_X3_77 (m_isBetween ?_ ?_ ?_) (by rfl) (by decide) (by omega) (by omega) rfl (Nat.le_of_ble_eq_true rfl) ?_ (fun _ _ _ h => h.elim)
    · first | omega | (simp (decide := true) only [upN_s, upN_n, upN_upN, upN_id] <;> omega)
    · first | omega | (simp (decide := true) only [upN_s, upN_n, upN_upN, upN_id] <;> omega)
    · first | omega | (simp (decide := true) only [upN_s, upN_n, upN_upN, upN_id] <;> omega)
    rintro _ _ ⟨rfl, rfl⟩
    refine y_ifd_eq (tgt := 37) E dX3_tower_24 (by decide) (fun h24 => ?_) (fun h24 => ?_)
    · first | refine y_ald_n E dX3_tower_37 (by rfl) ?_ | refine y_aload_n E dX3_tower_37 (by rfl) ?_
      refine y_iconst E dX3_tower_38 ?_
      refine y_callV E dX3_tower_39 lk_X3_63 (m_fails hA) (by rfl) (m_o hA _ _) rfl (by decide) (by omega) (by omega) rfl (Nat.le_of_ble_eq_true rfl) ?_ (fun _ _ _ h => h.elim)
      rintro _ _ ⟨rfl, rfl⟩
      try simp (decide := true) only [upN_s, upN_n, upN_upN, upN_id]
      refine y_ireturn E F rfl rfl dX3_tower_42 (by omega) (by omega) (by rw [show o_tower T p d k = (0, failT T 2) from by unfold o_tower; rw [if_neg (by rw [dB_t h9]; decide), if_pos (dB_f (by omega))]]; exact ⟨rfl, rfl⟩)
    · refine y_iload_n E dX3_tower_27 (by rfl) ?_
      refine y_iconst E dX3_tower_28 ?_
      refine y_bipush E dX3_tower_29 (by decide) ?_
      refine y_callS E dX3_tower_31 lk_X3_77 (m_isBetween ?_ ?_ ?_) (by rfl) (by decide) (by omega) (by omega) rfl (Nat.le_of_ble_eq_true rfl) ?_ (fun _ _ _ h => h.elim)
      · first | omega | (simp (decide := true) only [upN_s, upN_n, upN_upN, upN_id] <;> omega)
      · first | omega | (simp (decide := true) only [upN_s, upN_n, upN_upN, upN_id] <;> omega)
      · first | omega | (simp (decide := true) only [upN_s, upN_n, upN_upN, upN_id] <;> omega)
      rintro _ _ ⟨rfl, rfl⟩
      refine y_ifd_ne (tgt := 43) E dX3_tower_34 (by decide) (fun h34 => ?_) (fun h34 => ?_)
      · first | refine y_ald_n E dX3_tower_43 (by rfl) ?_ | refine y_aload_n E dX3_tower_43 (by rfl) ?_
        refine y_get E dX3_tower_44 fl_X3_13_X3 (m_o hA _ _) (by rfl) ?_
        refine y_bipush E dX3_tower_47 (by decide) ?_
        refine y_iald E dX3_tower_49 (m_r5 hA _ _) (by omega) ?_
        try simp (decide := true) only [upN_s, upN_n, upN_upN, upN_id]
        refine y_bipush E dX3_tower_50 (by decide) ?_
        refine y_icmp_ne (tgt := 61) E dX3_tower_52 (by decide) (by omega) (by omega) (fun h52 => ?_) (fun h52 => ?_)
        · first | refine y_ald_n E dX3_tower_61 (by rfl) ?_ | refine y_aload_n E dX3_tower_61 (by rfl) ?_
          refine y_iload_n E dX3_tower_62 (by rfl) ?_
          refine y_callV E dX3_tower_63 lk_X3_129 (m_towerAtPlace hA ?_ ?_) (by rfl) (m_o hA _ _) rfl (by decide) (by omega) (by omega) rfl (Nat.le_of_ble_eq_true rfl) ?_ (fun _ _ _ h => h.elim)
          · exact hS
          · first | omega | (simp (decide := true) only [upN_s, upN_n, upN_upN, upN_id] <;> omega)
          rintro _ _ ⟨rfl, rfl⟩
          try simp (decide := true) only [upN_s, upN_n, upN_upN, upN_id]
          rw [show fstI (fun t => tw (T 5) t 0 = p) (T 5 10) = atS (T 5) p from rfl]
          have hat2 : -1 ≤ atS (T 5) p ∧ atS (T 5) p < 8 := by unfold atS; omega
          refine y_if_lt (tgt := 88) E dX3_tower_66 (by decide) (by omega) (fun h66 => ?_) (fun h66 => ?_)
          · have hS2 := hS.twr (p := p) (sd := d) (sk := k) (by omega) (by omega) (by omega) (by omega)
            have hU2 := UT.twr (p := p) (sd := d) (sk := k) hS hU (by omega)
            first | refine y_ald_n E dX3_tower_88 (by rfl) ?_ | refine y_aload_n E dX3_tower_88 (by rfl) ?_
            refine y_callV E dX3_tower_89 lk_X3_138 (m_notes hA) (by rfl) (m_o hA _ _) rfl (by decide) (by omega) (by omega) rfl (Nat.le_of_ble_eq_true rfl) ?_ (fun _ _ _ h => h.elim)
            rintro _ _ ⟨rfl, rfl⟩
            try simp (decide := true) only [upN_s, upN_n, upN_upN, upN_id]
            first | refine y_ald_n E dX3_tower_92 (by rfl) ?_ | refine y_aload_n E dX3_tower_92 (by rfl) ?_
            refine y_get E dX3_tower_93 fl_X3_13_X3 (m_o hA _ _) (by rfl) ?_
            refine y_bipush E dX3_tower_96 (by decide) ?_
            refine y_iald E dX3_tower_98 (m_r5 hA _ _) (by omega) ?_
            try simp (decide := true) only [upN_s, upN_n, upN_upN, upN_id]
            refine y_istore E dX3_tower_99 (Nat.le_of_ble_eq_true rfl) ?_
            first | refine y_ald_n E dX3_tower_101 (by rfl) ?_ | refine y_aload_n E dX3_tower_101 (by rfl) ?_
            refine y_get E dX3_tower_102 fl_X3_13_X3 (m_o hA _ _) (by rfl) ?_
            refine y_iload E dX3_tower_105 (by rfl) ?_
            refine y_iconst E dX3_tower_107 ?_
            refine y_callS E dX3_tower_108 lk_X3_73 (m_towerAt) (by rfl) (by decide) (by omega) (by omega) rfl (Nat.le_of_ble_eq_true rfl) ?_ (fun _ _ _ h => h.elim)
            rintro _ _ ⟨rfl, rfl⟩
            refine y_iload_n E dX3_tower_111 (by rfl) ?_
            refine y_iast E dX3_tower_112 (m_r5 hA _ _) (by omega) ?_
            refine y_heap (m_w5 hA) ?_
            try simp (decide := true) only [upN_s, upN_n, upN_upN, upN_id]
            first | refine y_ald_n E dX3_tower_113 (by rfl) ?_ | refine y_aload_n E dX3_tower_113 (by rfl) ?_
            refine y_get E dX3_tower_114 fl_X3_13_X3 (m_o hA _ _) (by rfl) ?_
            refine y_iload E dX3_tower_117 (by rfl) ?_
            refine y_iconst E dX3_tower_119 ?_
            refine y_callS E dX3_tower_120 lk_X3_73 (m_towerAt) (by rfl) (by decide) (by omega) (by omega) rfl (Nat.le_of_ble_eq_true rfl) ?_ (fun _ _ _ h => h.elim)
            rintro _ _ ⟨rfl, rfl⟩
            refine y_iload_n E dX3_tower_123 (by rfl) ?_
            refine y_iast E dX3_tower_124 (m_r5 hA _ _) (by omega) ?_
            refine y_heap (m_w5 hA) ?_
            try simp (decide := true) only [upN_s, upN_n, upN_upN, upN_id]
            first | refine y_ald_n E dX3_tower_125 (by rfl) ?_ | refine y_aload_n E dX3_tower_125 (by rfl) ?_
            refine y_get E dX3_tower_126 fl_X3_13_X3 (m_o hA _ _) (by rfl) ?_
            refine y_iload E dX3_tower_129 (by rfl) ?_
            refine y_iconst E dX3_tower_131 ?_
            refine y_callS E dX3_tower_132 lk_X3_73 (m_towerAt) (by rfl) (by decide) (by omega) (by omega) rfl (Nat.le_of_ble_eq_true rfl) ?_ (fun _ _ _ h => h.elim)
            rintro _ _ ⟨rfl, rfl⟩
            refine y_iload_n E dX3_tower_135 (by rfl) ?_
            refine y_iast E dX3_tower_136 (m_r5 hA _ _) (by omega) ?_
            refine y_heap (m_w5 hA) ?_
            try simp (decide := true) only [upN_s, upN_n, upN_upN, upN_id]
            first | refine y_ald_n E dX3_tower_137 (by rfl) ?_ | refine y_aload_n E dX3_tower_137 (by rfl) ?_
            refine y_get E dX3_tower_138 fl_X3_13_X3 (m_o hA _ _) (by rfl) ?_
            refine y_iload E dX3_tower_141 (by rfl) ?_
            refine y_iconst E dX3_tower_143 ?_
            refine y_callS E dX3_tower_144 lk_X3_73 (m_towerAt) (by rfl) (by decide) (by omega) (by omega) rfl (Nat.le_of_ble_eq_true rfl) ?_ (fun _ _ _ h => h.elim)
            rintro _ _ ⟨rfl, rfl⟩
            refine y_iconst E dX3_tower_147 ?_
            refine y_iast E dX3_tower_148 (m_r5 hA _ _) (by omega) ?_
            refine y_heap (m_w5 hA) ?_
            try simp (decide := true) only [upN_s, upN_n, upN_upN, upN_id]
            first | refine y_ald_n E dX3_tower_149 (by rfl) ?_ | refine y_aload_n E dX3_tower_149 (by rfl) ?_
            refine y_get E dX3_tower_150 fl_X3_13_X3 (m_o hA _ _) (by rfl) ?_
            refine y_iload E dX3_tower_153 (by rfl) ?_
            refine y_iconst E dX3_tower_155 ?_
            refine y_callS E dX3_tower_156 lk_X3_73 (m_towerAt) (by rfl) (by decide) (by omega) (by omega) rfl (Nat.le_of_ble_eq_true rfl) ?_ (fun _ _ _ h => h.elim)
            rintro _ _ ⟨rfl, rfl⟩
            refine y_iconst E dX3_tower_159 ?_
            refine y_iast E dX3_tower_160 (m_r5 hA _ _) (by omega) ?_
            refine y_heap (m_w5 hA) ?_
            try simp (decide := true) only [upN_s, upN_n, upN_upN, upN_id]
            first | refine y_ald_n E dX3_tower_161 (by rfl) ?_ | refine y_aload_n E dX3_tower_161 (by rfl) ?_
            refine y_get E dX3_tower_162 fl_X3_13_X3 (m_o hA _ _) (by rfl) ?_
            refine y_iload E dX3_tower_165 (by rfl) ?_
            refine y_iconst E dX3_tower_167 ?_
            refine y_callS E dX3_tower_168 lk_X3_73 (m_towerAt) (by rfl) (by decide) (by omega) (by omega) rfl (Nat.le_of_ble_eq_true rfl) ?_ (fun _ _ _ h => h.elim)
            rintro _ _ ⟨rfl, rfl⟩
            refine y_iconst E dX3_tower_171 ?_
            refine y_iast E dX3_tower_172 (m_r5 hA _ _) (by omega) ?_
            refine y_heap (m_w5 hA) ?_
            try simp (decide := true) only [upN_s, upN_n, upN_upN, upN_id]
            first | refine y_ald_n E dX3_tower_173 (by rfl) ?_ | refine y_aload_n E dX3_tower_173 (by rfl) ?_
            refine y_get E dX3_tower_174 fl_X3_13_X3 (m_o hA _ _) (by rfl) ?_
            refine y_iload E dX3_tower_177 (by rfl) ?_
            refine y_bipush E dX3_tower_179 (by decide) ?_
            refine y_callS E dX3_tower_181 lk_X3_73 (m_towerAt) (by rfl) (by decide) (by omega) (by omega) rfl (Nat.le_of_ble_eq_true rfl) ?_ (fun _ _ _ h => h.elim)
            rintro _ _ ⟨rfl, rfl⟩
            refine y_iconst E dX3_tower_184 ?_
            refine y_iast E dX3_tower_185 (m_r5 hA _ _) (by omega) ?_
            refine y_heap (m_w5 hA) ?_
            try simp (decide := true) only [upN_s, upN_n, upN_upN, upN_id]
            first | refine y_ald_n E dX3_tower_186 (by rfl) ?_ | refine y_aload_n E dX3_tower_186 (by rfl) ?_
            refine y_get E dX3_tower_187 fl_X3_13_X3 (m_o hA _ _) (by rfl) ?_
            refine y_iload E dX3_tower_190 (by rfl) ?_
            refine y_bipush E dX3_tower_192 (by decide) ?_
            refine y_callS E dX3_tower_194 lk_X3_73 (m_towerAt) (by rfl) (by decide) (by omega) (by omega) rfl (Nat.le_of_ble_eq_true rfl) ?_ (fun _ _ _ h => h.elim)
            rintro _ _ ⟨rfl, rfl⟩
            refine y_iconst E dX3_tower_197 ?_
            refine y_iast E dX3_tower_198 (m_r5 hA _ _) (by omega) ?_
            refine y_heap (m_w5 hA) ?_
            try simp (decide := true) only [upN_s, upN_n, upN_upN, upN_id]
            first | refine y_ald_n E dX3_tower_199 (by rfl) ?_ | refine y_aload_n E dX3_tower_199 (by rfl) ?_
            refine y_get E dX3_tower_200 fl_X3_13_X3 (m_o hA _ _) (by rfl) ?_
            refine y_bipush E dX3_tower_203 (by decide) ?_
            refine y_dup2 E dX3_tower_205 rfl rfl ?_
            refine y_iald E dX3_tower_206 (m_r5 hA _ _) (by omega) ?_
            try simp (decide := true) only [upN_s, upN_n, upN_upN, upN_id]
            simp (disch := omega) only [upI_n]
            refine y_iconst E dX3_tower_207 ?_
            refine y_iadd E dX3_tower_208 ?_
            refine y_iast E dX3_tower_209 (m_r5 hA _ _) (by omega) ?_
            refine y_heap (m_w5 hA) ?_
            try simp (decide := true) only [upN_s, upN_n, upN_upN, upN_id]
            first | refine y_ald_n E dX3_tower_210 (by rfl) ?_ | refine y_aload_n E dX3_tower_210 (by rfl) ?_
            refine y_callV E dX3_tower_211 lk_X3_141 (m_isDone hA ?_ ?_ ?_ ?_) (by rfl) (m_o hA _ _) rfl (by decide) (by omega) (by omega) rfl (Nat.le_of_ble_eq_true rfl) ?_ (fun _ _ _ h => h.elim)
            · exact hS2
            · exact hU2
            · first | omega | (simp (decide := true) only [upN_s, upN_n, upN_upN, upN_id] <;> omega)
            · first | omega | (simp (decide := true) only [upN_s, upN_n, upN_upN, upN_id] <;> omega)
            rintro _ _ ⟨rfl, rfl⟩
            try simp (decide := true) only [upN_s, upN_n, upN_upN, upN_id]
            refine y_iload E dX3_tower_214 (by rfl) ?_
            refine y_ireturn E F rfl rfl dX3_tower_216 (by omega) (by omega) (by first | exact absurd trivial h79 | (rw [show o_tower T p d k = (T 5 10, chgT T (twrS (T 5) p d k)) from by unfold o_tower; rw [if_neg (by rw [dB_t h9]; decide), if_neg (by rw [dB_t (by omega)]; decide), if_neg h52, if_neg (by omega)]]; exact ⟨rfl, rfl⟩))
          · first | refine y_ald_n E dX3_tower_69 (by rfl) ?_ | refine y_aload_n E dX3_tower_69 (by rfl) ?_
            refine y_iconst E dX3_tower_70 ?_
            first | refine y_ald_n E dX3_tower_71 (by rfl) ?_ | refine y_aload_n E dX3_tower_71 (by rfl) ?_
            refine y_iload_n E dX3_tower_72 (by rfl) ?_
            refine y_callV E dX3_tower_73 lk_X3_129 (m_towerAtPlace hA ?_ ?_) (by rfl) (m_o hA _ _) rfl (by decide) (by omega) (by omega) rfl (Nat.le_of_ble_eq_true rfl) ?_ (fun _ _ _ h => h.elim)
            · exact hS
            · first | omega | (simp (decide := true) only [upN_s, upN_n, upN_upN, upN_id] <;> omega)
            rintro _ _ ⟨rfl, rfl⟩
            try simp (decide := true) only [upN_s, upN_n, upN_upN, upN_id]
            rw [show fstI (fun t => tw (T 5) t 0 = p) (T 5 10) = atS (T 5) p from rfl]
            refine y_callV E dX3_tower_76 lk_X3_132 (m_hinders hA) (by rfl) (m_o hA _ _) rfl (by decide) (by omega) (by omega) rfl (Nat.le_of_ble_eq_true rfl) ?_ (fun _ _ _ h => h.elim)
            rintro _ _ ⟨rfl, rfl⟩
            try simp (decide := true) only [upN_s, upN_n, upN_upN, upN_id]
            refine y_ifd_eq (tgt := 88) E dX3_tower_79 (by decide) (fun h79 => ?_) (fun h79 => ?_)
            · have hS2 := hS.twr (p := p) (sd := d) (sk := k) (by omega) (by omega) (by omega) (by omega)
              have hU2 := UT.twr (p := p) (sd := d) (sk := k) hS hU (by omega)
              first | refine y_ald_n E dX3_tower_88 (by rfl) ?_ | refine y_aload_n E dX3_tower_88 (by rfl) ?_
              refine y_callV E dX3_tower_89 lk_X3_138 (m_notes hA) (by rfl) (m_o hA _ _) rfl (by decide) (by omega) (by omega) rfl (Nat.le_of_ble_eq_true rfl) ?_ (fun _ _ _ h => h.elim)
              rintro _ _ ⟨rfl, rfl⟩
              try simp (decide := true) only [upN_s, upN_n, upN_upN, upN_id]
              first | refine y_ald_n E dX3_tower_92 (by rfl) ?_ | refine y_aload_n E dX3_tower_92 (by rfl) ?_
              refine y_get E dX3_tower_93 fl_X3_13_X3 (m_o hA _ _) (by rfl) ?_
              refine y_bipush E dX3_tower_96 (by decide) ?_
              refine y_iald E dX3_tower_98 (m_r5 hA _ _) (by omega) ?_
              try simp (decide := true) only [upN_s, upN_n, upN_upN, upN_id]
              refine y_istore E dX3_tower_99 (Nat.le_of_ble_eq_true rfl) ?_
              first | refine y_ald_n E dX3_tower_101 (by rfl) ?_ | refine y_aload_n E dX3_tower_101 (by rfl) ?_
              refine y_get E dX3_tower_102 fl_X3_13_X3 (m_o hA _ _) (by rfl) ?_
              refine y_iload E dX3_tower_105 (by rfl) ?_
              refine y_iconst E dX3_tower_107 ?_
              refine y_callS E dX3_tower_108 lk_X3_73 (m_towerAt) (by rfl) (by decide) (by omega) (by omega) rfl (Nat.le_of_ble_eq_true rfl) ?_ (fun _ _ _ h => h.elim)
              rintro _ _ ⟨rfl, rfl⟩
              refine y_iload_n E dX3_tower_111 (by rfl) ?_
              refine y_iast E dX3_tower_112 (m_r5 hA _ _) (by omega) ?_
              refine y_heap (m_w5 hA) ?_
              try simp (decide := true) only [upN_s, upN_n, upN_upN, upN_id]
              first | refine y_ald_n E dX3_tower_113 (by rfl) ?_ | refine y_aload_n E dX3_tower_113 (by rfl) ?_
              refine y_get E dX3_tower_114 fl_X3_13_X3 (m_o hA _ _) (by rfl) ?_
              refine y_iload E dX3_tower_117 (by rfl) ?_
              refine y_iconst E dX3_tower_119 ?_
              refine y_callS E dX3_tower_120 lk_X3_73 (m_towerAt) (by rfl) (by decide) (by omega) (by omega) rfl (Nat.le_of_ble_eq_true rfl) ?_ (fun _ _ _ h => h.elim)
              rintro _ _ ⟨rfl, rfl⟩
              refine y_iload_n E dX3_tower_123 (by rfl) ?_
              refine y_iast E dX3_tower_124 (m_r5 hA _ _) (by omega) ?_
              refine y_heap (m_w5 hA) ?_
              try simp (decide := true) only [upN_s, upN_n, upN_upN, upN_id]
              first | refine y_ald_n E dX3_tower_125 (by rfl) ?_ | refine y_aload_n E dX3_tower_125 (by rfl) ?_
              refine y_get E dX3_tower_126 fl_X3_13_X3 (m_o hA _ _) (by rfl) ?_
              refine y_iload E dX3_tower_129 (by rfl) ?_
              refine y_iconst E dX3_tower_131 ?_
              refine y_callS E dX3_tower_132 lk_X3_73 (m_towerAt) (by rfl) (by decide) (by omega) (by omega) rfl (Nat.le_of_ble_eq_true rfl) ?_ (fun _ _ _ h => h.elim)
              rintro _ _ ⟨rfl, rfl⟩
              refine y_iload_n E dX3_tower_135 (by rfl) ?_
              refine y_iast E dX3_tower_136 (m_r5 hA _ _) (by omega) ?_
              refine y_heap (m_w5 hA) ?_
              try simp (decide := true) only [upN_s, upN_n, upN_upN, upN_id]
              first | refine y_ald_n E dX3_tower_137 (by rfl) ?_ | refine y_aload_n E dX3_tower_137 (by rfl) ?_
              refine y_get E dX3_tower_138 fl_X3_13_X3 (m_o hA _ _) (by rfl) ?_
              refine y_iload E dX3_tower_141 (by rfl) ?_
              refine y_iconst E dX3_tower_143 ?_
              refine y_callS E dX3_tower_144 lk_X3_73 (m_towerAt) (by rfl) (by decide) (by omega) (by omega) rfl (Nat.le_of_ble_eq_true rfl) ?_ (fun _ _ _ h => h.elim)
              rintro _ _ ⟨rfl, rfl⟩
              refine y_iconst E dX3_tower_147 ?_
              refine y_iast E dX3_tower_148 (m_r5 hA _ _) (by omega) ?_
              refine y_heap (m_w5 hA) ?_
              try simp (decide := true) only [upN_s, upN_n, upN_upN, upN_id]
              first | refine y_ald_n E dX3_tower_149 (by rfl) ?_ | refine y_aload_n E dX3_tower_149 (by rfl) ?_
              refine y_get E dX3_tower_150 fl_X3_13_X3 (m_o hA _ _) (by rfl) ?_
              refine y_iload E dX3_tower_153 (by rfl) ?_
              refine y_iconst E dX3_tower_155 ?_
              refine y_callS E dX3_tower_156 lk_X3_73 (m_towerAt) (by rfl) (by decide) (by omega) (by omega) rfl (Nat.le_of_ble_eq_true rfl) ?_ (fun _ _ _ h => h.elim)
              rintro _ _ ⟨rfl, rfl⟩
              refine y_iconst E dX3_tower_159 ?_
              refine y_iast E dX3_tower_160 (m_r5 hA _ _) (by omega) ?_
              refine y_heap (m_w5 hA) ?_
              try simp (decide := true) only [upN_s, upN_n, upN_upN, upN_id]
              first | refine y_ald_n E dX3_tower_161 (by rfl) ?_ | refine y_aload_n E dX3_tower_161 (by rfl) ?_
              refine y_get E dX3_tower_162 fl_X3_13_X3 (m_o hA _ _) (by rfl) ?_
              refine y_iload E dX3_tower_165 (by rfl) ?_
              refine y_iconst E dX3_tower_167 ?_
              refine y_callS E dX3_tower_168 lk_X3_73 (m_towerAt) (by rfl) (by decide) (by omega) (by omega) rfl (Nat.le_of_ble_eq_true rfl) ?_ (fun _ _ _ h => h.elim)
              rintro _ _ ⟨rfl, rfl⟩
              refine y_iconst E dX3_tower_171 ?_
              refine y_iast E dX3_tower_172 (m_r5 hA _ _) (by omega) ?_
              refine y_heap (m_w5 hA) ?_
              try simp (decide := true) only [upN_s, upN_n, upN_upN, upN_id]
              first | refine y_ald_n E dX3_tower_173 (by rfl) ?_ | refine y_aload_n E dX3_tower_173 (by rfl) ?_
              refine y_get E dX3_tower_174 fl_X3_13_X3 (m_o hA _ _) (by rfl) ?_
              refine y_iload E dX3_tower_177 (by rfl) ?_
              refine y_bipush E dX3_tower_179 (by decide) ?_
              refine y_callS E dX3_tower_181 lk_X3_73 (m_towerAt) (by rfl) (by decide) (by omega) (by omega) rfl (Nat.le_of_ble_eq_true rfl) ?_ (fun _ _ _ h => h.elim)
              rintro _ _ ⟨rfl, rfl⟩
              refine y_iconst E dX3_tower_184 ?_
              refine y_iast E dX3_tower_185 (m_r5 hA _ _) (by omega) ?_
              refine y_heap (m_w5 hA) ?_
              try simp (decide := true) only [upN_s, upN_n, upN_upN, upN_id]
              first | refine y_ald_n E dX3_tower_186 (by rfl) ?_ | refine y_aload_n E dX3_tower_186 (by rfl) ?_
              refine y_get E dX3_tower_187 fl_X3_13_X3 (m_o hA _ _) (by rfl) ?_
              refine y_iload E dX3_tower_190 (by rfl) ?_
              refine y_bipush E dX3_tower_192 (by decide) ?_
              refine y_callS E dX3_tower_194 lk_X3_73 (m_towerAt) (by rfl) (by decide) (by omega) (by omega) rfl (Nat.le_of_ble_eq_true rfl) ?_ (fun _ _ _ h => h.elim)
              rintro _ _ ⟨rfl, rfl⟩
              refine y_iconst E dX3_tower_197 ?_
              refine y_iast E dX3_tower_198 (m_r5 hA _ _) (by omega) ?_
              refine y_heap (m_w5 hA) ?_
              try simp (decide := true) only [upN_s, upN_n, upN_upN, upN_id]
              first | refine y_ald_n E dX3_tower_199 (by rfl) ?_ | refine y_aload_n E dX3_tower_199 (by rfl) ?_
              refine y_get E dX3_tower_200 fl_X3_13_X3 (m_o hA _ _) (by rfl) ?_
              refine y_bipush E dX3_tower_203 (by decide) ?_
              refine y_dup2 E dX3_tower_205 rfl rfl ?_
              refine y_iald E dX3_tower_206 (m_r5 hA _ _) (by omega) ?_
              try simp (decide := true) only [upN_s, upN_n, upN_upN, upN_id]
              simp (disch := omega) only [upI_n]
              refine y_iconst E dX3_tower_207 ?_
              refine y_iadd E dX3_tower_208 ?_
              refine y_iast E dX3_tower_209 (m_r5 hA _ _) (by omega) ?_
              refine y_heap (m_w5 hA) ?_
              try simp (decide := true) only [upN_s, upN_n, upN_upN, upN_id]
              first | refine y_ald_n E dX3_tower_210 (by rfl) ?_ | refine y_aload_n E dX3_tower_210 (by rfl) ?_
              refine y_callV E dX3_tower_211 lk_X3_141 (m_isDone hA ?_ ?_ ?_ ?_) (by rfl) (m_o hA _ _) rfl (by decide) (by omega) (by omega) rfl (Nat.le_of_ble_eq_true rfl) ?_ (fun _ _ _ h => h.elim)
              · exact hS2
              · exact hU2
              · first | omega | (simp (decide := true) only [upN_s, upN_n, upN_upN, upN_id] <;> omega)
              · first | omega | (simp (decide := true) only [upN_s, upN_n, upN_upN, upN_id] <;> omega)
              rintro _ _ ⟨rfl, rfl⟩
              try simp (decide := true) only [upN_s, upN_n, upN_upN, upN_id]
              refine y_iload E dX3_tower_214 (by rfl) ?_
              refine y_ireturn E F rfl rfl dX3_tower_216 (by omega) (by omega) (by first | exact absurd trivial h79 | (rw [show o_tower T p d k = (T 5 10, chgT T (twrS (T 5) p d k)) from by unfold o_tower; rw [if_neg (by rw [dB_t h9]; decide), if_neg (by rw [dB_t (by omega)]; decide), if_neg h52, if_neg (by omega)]]; exact ⟨rfl, rfl⟩))
            · first | refine y_ald_n E dX3_tower_82 (by rfl) ?_ | refine y_aload_n E dX3_tower_82 (by rfl) ?_
              refine y_iconst E dX3_tower_83 ?_
              refine y_callV E dX3_tower_84 lk_X3_135 (m_refuses hA) (by rfl) (m_o hA _ _) rfl (by decide) (by omega) (by omega) rfl (Nat.le_of_ble_eq_true rfl) ?_ (fun _ _ _ h => h.elim)
              rintro _ _ ⟨rfl, rfl⟩
              try simp (decide := true) only [upN_s, upN_n, upN_upN, upN_id]
              refine y_ireturn E F rfl rfl dX3_tower_87 (by omega) (by omega) (by rw [show o_tower T p d k = (0, rfuT T (some (1, atS (T 5) p)) 4) from by unfold o_tower; rw [if_neg (by rw [dB_t h9]; decide), if_neg (by rw [dB_t (by omega)]; decide), if_neg h52, if_pos h66]]; exact ⟨rfl, rfl⟩)
        · first | refine y_ald_n E dX3_tower_55 (by rfl) ?_ | refine y_aload_n E dX3_tower_55 (by rfl) ?_
          refine y_iconst E dX3_tower_56 ?_
          refine y_callV E dX3_tower_57 lk_X3_63 (m_fails hA) (by rfl) (m_o hA _ _) rfl (by decide) (by omega) (by omega) rfl (Nat.le_of_ble_eq_true rfl) ?_ (fun _ _ _ h => h.elim)
          rintro _ _ ⟨rfl, rfl⟩
          try simp (decide := true) only [upN_s, upN_n, upN_upN, upN_id]
          refine y_ireturn E F rfl rfl dX3_tower_60 (by omega) (by omega) (by rw [show o_tower T p d k = (0, failT T 3) from by unfold o_tower; rw [if_neg (by rw [dB_t h9]; decide), if_neg (by rw [dB_t (by omega)]; decide), if_pos h52]]; exact ⟨rfl, rfl⟩)
      · first | refine y_ald_n E dX3_tower_37 (by rfl) ?_ | refine y_aload_n E dX3_tower_37 (by rfl) ?_
        refine y_iconst E dX3_tower_38 ?_
        refine y_callV E dX3_tower_39 lk_X3_63 (m_fails hA) (by rfl) (m_o hA _ _) rfl (by decide) (by omega) (by omega) rfl (Nat.le_of_ble_eq_true rfl) ?_ (fun _ _ _ h => h.elim)
        rintro _ _ ⟨rfl, rfl⟩
        try simp (decide := true) only [upN_s, upN_n, upN_upN, upN_id]
        refine y_ireturn E F rfl rfl dX3_tower_42 (by omega) (by omega) (by rw [show o_tower T p d k = (0, failT T 2) from by unfold o_tower; rw [if_neg (by rw [dB_t h9]; decide), if_pos (dB_f (by omega))]]; exact ⟨rfl, rfl⟩)
  · first | refine y_ald_n E dX3_tower_12 (by rfl) ?_ | refine y_aload_n E dX3_tower_12 (by rfl) ?_
    refine y_iconst E dX3_tower_13 ?_
    refine y_callV E dX3_tower_14 lk_X3_63 (m_fails hA) (by rfl) (m_o hA _ _) rfl (by decide) (by omega) (by omega) rfl (Nat.le_of_ble_eq_true rfl) ?_ (fun _ _ _ h => h.elim)
    rintro _ _ ⟨rfl, rfl⟩
    try simp (decide := true) only [upN_s, upN_n, upN_upN, upN_id]
    refine y_ireturn E F rfl rfl dX3_tower_17 (by omega) (by omega) (by rw [show o_tower T p d k = (0, failT T 1) from by unfold o_tower; rw [if_pos (dB_f h9)]]; exact ⟨rfl, rfl⟩)
end Tw7
