/-! ===== the twin: texts are read ===== -/
section Ps
/-- the sign at a place of the input; -1 behind its end -/
def chT (T : Nat → Int → Int) (p : Int) : Int := if p < T 17 0 then T 15 p else -1
def advT (T : Nat → Int → Int) : Nat → Int → Int := upN T 22 (fun _ => T 22 0 + 1)
def takT (T : Nat → Int → Int) (c : Int) : Bool × (Nat → Int → Int) := if chT T (T 22 0) = c then (true, advT T) else (false, T)
def digT (T : Nat → Int → Int) (h : Int) : Bool × (Nat → Int → Int) := if 48 ≤ chT T (T 22 0) ∧ chT T (T 22 0) ≤ 48 + h then (true, advT (upN T 20 (upI (T 20) (T 23 0) (chT T (T 22 0) - 48)))) else (false, T)
def fogT (T : Nat → Int → Int) : Bool × (Nat → Int → Int) :=
  if (digT T 6).1 = false then (false, (digT T 6).2) else
  if (takT (digT T 6).2 61).1 = false then (false, (takT (digT T 6).2 61).2) else
  if 48 ≤ chT (takT (digT T 6).2 61).2 ((takT (digT T 6).2 61).2 22 0) ∧ chT (takT (digT T 6).2 61).2 ((takT (digT T 6).2 61).2 22 0) ≤ 57 then (true, advT (upN (takT (digT T 6).2 61).2 21 (upI ((takT (digT T 6).2 61).2 21) ((takT (digT T 6).2 61).2 23 0) (chT (takT (digT T 6).2 61).2 ((takT (digT T 6).2 61).2 22 0) - 48)))) else (false, (takT (digT T 6).2 61).2)
/-- signs are read as bits behind a leading 1 -/
def sgnF : Nat → (Nat → Int → Int) → Int → Int × (Nat → Int → Int)
  | 0, T, x => (x, T)
  | f + 1, T, x => if x < 256 ∧ (chT T (T 22 0) = 42 ∨ chT T (T 22 0) = 46) then sgnF f (advT T) (2 * x + (if chT T (T 22 0) = 42 then 1 else 0)) else (x, T)
def sgnT (T : Nat → Int → Int) : Int × (Nat → Int → Int) := sgnF 9 T 1
def patT (T : Nat → Int → Int) : Bool × (Nat → Int → Int) :=
  if (digT T 7).1 = false then (false, (digT T 7).2) else
  if (takT (digT T 7).2 58).1 = false then (false, (takT (digT T 7).2 58).2) else
  (decide (3 < (sgnT (takT (digT T 7).2 58).2).1), upN (sgnT (takT (digT T 7).2 58).2).2 21 (upI ((sgnT (takT (digT T 7).2 58).2).2 21) ((sgnT (takT (digT T 7).2 58).2).2 23 0) (sgnT (takT (digT T 7).2 58).2).1))
def numT (T : Nat → Int → Int) : Bool × (Nat → Int → Int) :=
  if (digT T 9).1 = false then (false, (digT T 9).2) else
  if 48 ≤ chT (digT T 9).2 ((digT T 9).2 22 0) ∧ chT (digT T 9).2 ((digT T 9).2 22 0) ≤ 57 then (true, advT (upN (digT T 9).2 20 (upI ((digT T 9).2 20) ((digT T 9).2 23 0) (10 * (digT T 9).2 20 ((digT T 9).2 23 0) + chT (digT T 9).2 ((digT T 9).2 22 0) - 48)))) else (true, (digT T 9).2)
/-- what holds while a text is read -/
def PI (T : Nat → Int → Int) : Prop := (0 ≤ T 17 0 ∧ T 17 0 ≤ 60) ∧ (0 ≤ T 22 0 ∧ T 22 0 ≤ T 17 0) ∧ (0 ≤ T 23 0 ∧ T 23 0 < 32) ∧ (∀ k, 0 ≤ k → k < 60 → 0 ≤ T 15 k ∧ T 15 k ≤ 126) ∧ (∀ k, 0 ≤ k → k < 32 → -1 ≤ T 19 k ∧ T 19 k ≤ 126) ∧ (∀ k, 0 ≤ k → k < 32 → 0 ≤ T 20 k ∧ T 20 k ≤ 99) ∧ (∀ k, 0 ≤ k → k < 32 → 0 ≤ T 21 k ∧ T 21 k ≤ 511)
theorem chT_in {T : Nat → Int → Int} (h : PI T) {p : Int} (hp : 0 ≤ p) : -1 ≤ chT T p ∧ chT T p ≤ 126 := by
  unfold chT
  split
  · have := h.2.2.2.1 p hp (by have := h.1; omega)
    omega
  · omega
theorem chT_lt {T : Nat → Int → Int} {p : Int} (h : 0 ≤ chT T p) : p < T 17 0 := by
  unfold chT at h
  split at h
  · assumption
  · omega
theorem up_in {f : Int → Int} {n k v lo hi : Int} (h : ∀ j, 0 ≤ j → j < n → lo ≤ f j ∧ f j ≤ hi) (hv : lo ≤ v ∧ v ≤ hi) : ∀ j, 0 ≤ j → j < n → lo ≤ upI f k v j ∧ upI f k v j ≤ hi := fun j j0 j1 => by
  by_cases e : j = k
  · subst e
    rw [upI_s]
    exact hv
  · rw [upI_n _ e]
    exact h j j0 j1
theorem PI_adv {T : Nat → Int → Int} (h : PI T) (h1 : T 22 0 < T 17 0) : PI (advT T) := by
  obtain ⟨a, b, c, d, e, f, g⟩ := h
  exact ⟨a, (by show 0 ≤ T 22 0 + 1 ∧ T 22 0 + 1 ≤ T 17 0; omega), c, d, e, f, g⟩
theorem PI_19 {T : Nat → Int → Int} (h : PI T) {k v : Int} (hv : -1 ≤ v ∧ v ≤ 126) : PI (upN T 19 (upI (T 19) k v)) := by
  obtain ⟨a, b, c, d, e, f, g⟩ := h
  exact ⟨a, b, c, d, up_in e hv, f, g⟩
theorem PI_20 {T : Nat → Int → Int} (h : PI T) {k v : Int} (hv : 0 ≤ v ∧ v ≤ 99) : PI (upN T 20 (upI (T 20) k v)) := by
  obtain ⟨a, b, c, d, e, f, g⟩ := h
  exact ⟨a, b, c, d, e, up_in f hv, g⟩
theorem PI_21 {T : Nat → Int → Int} (h : PI T) {k v : Int} (hv : 0 ≤ v ∧ v ≤ 511) : PI (upN T 21 (upI (T 21) k v)) := by
  obtain ⟨a, b, c, d, e, f, g⟩ := h
  exact ⟨a, b, c, d, e, f, up_in g hv⟩
theorem PI_tak {T : Nat → Int → Int} (h : PI T) {c : Int} (hc : 0 ≤ c) : PI (takT T c).2 := by
  unfold takT
  split
  · exact PI_adv h (chT_lt (by omega))
  · exact h
theorem PI_dig {T : Nat → Int → Int} (h : PI T) {x : Int} (hx : x ≤ 9) : PI (digT T x).2 := by
  unfold digT
  split
  · have h1 := chT_lt (T := T) (p := T 22 0) (by omega)
    exact PI_adv (PI_20 h (by omega)) h1
  · exact h
theorem PI_fog {T : Nat → Int → Int} (h : PI T) : PI (fogT T).2 := by
  have h1 := PI_dig h (x := 6) (by omega)
  have h2 := PI_tak h1 (c := 61) (by omega)
  unfold fogT
  split
  · exact h1
  · split
    · exact h2
    · split
      · have h3 := chT_lt (T := (takT (digT T 6).2 61).2) (p := (takT (digT T 6).2 61).2 22 0) (by omega)
        exact PI_adv (PI_21 h2 (by omega)) h3
      · exact h2
theorem sgnF_ok : ∀ (f : Nat) {T : Nat → Int → Int} {x : Int}, PI T → 1 ≤ x ∧ x ≤ 511 → PI (sgnF f T x).2 ∧ 1 ≤ (sgnF f T x).1 ∧ (sgnF f T x).1 ≤ 511
  | 0, _, _, h, hx => ⟨h, hx⟩
  | f + 1, T, x, h, hx => by
    simp only [sgnF]
    split
    · rename_i hc
      have h1 := chT_lt (T := T) (p := T 22 0) (by omega)
      exact sgnF_ok f (PI_adv h h1) (by split <;> omega)
    · exact ⟨h, hx⟩
theorem PI_pat {T : Nat → Int → Int} (h : PI T) : PI (patT T).2 := by
  have h1 := PI_dig h (x := 7) (by omega)
  have h2 := PI_tak h1 (c := 58) (by omega)
  have h3 := sgnF_ok 9 (x := 1) h2 (by omega)
  unfold patT
  split
  · exact h1
  · split
    · exact h2
    · exact PI_21 h3.1 ⟨by have := h3.2.1; unfold sgnT; omega, h3.2.2⟩
theorem PI_num {T : Nat → Int → Int} (h : PI T) : PI (numT T).2 := by
  have h1 := PI_dig h (x := 9) (by omega)
  unfold numT
  by_cases hd : (digT T 9).1 = false
  · rw [if_pos hd]
    exact h1
  · rw [if_neg hd]
    split
    · have h3 := chT_lt (T := (digT T 9).2) (p := (digT T 9).2 22 0) (by omega)
      refine PI_adv (PI_20 h1 ?_) h3
      have h9 : 0 ≤ (digT T 9).2 20 ((digT T 9).2 23 0) ∧ (digT T 9).2 20 ((digT T 9).2 23 0) ≤ 9 := by
        unfold digT at hd ⊢
        split at hd
        · rename_i hc
          rw [if_pos hc]
          show 0 ≤ upI (T 20) (T 23 0) _ (T 23 0) ∧ upI (T 20) (T 23 0) _ (T 23 0) ≤ 9
          rw [upI_s]
          omega
        · exact absurd rfl hd
      omega
    · exact h1
/-- a command -/
def cm0 (T : Nat → Int → Int) : Nat → Int → Int := upN T 19 (upI (T 19) (T 23 0) (chT T (T 22 0)))
def cmdT (T : Nat → Int → Int) : Bool × (Nat → Int → Int) :=
  if chT T (T 22 0) = 76 ∨ chT T (T 22 0) = 68 ∨ chT T (T 22 0) = 66 ∨ chT T (T 22 0) = 77 ∨ chT T (T 22 0) = 83 then digT (advT (cm0 T)) 7 else
  if chT T (T 22 0) = 70 then fogT (advT (cm0 T)) else
  if chT T (T 22 0) = 80 then patT (advT (cm0 T)) else
  if chT T (T 22 0) = 78 then numT (advT (cm0 T)) else (false, cm0 T)
theorem PI_cm0 {T : Nat → Int → Int} (h : PI T) : PI (cm0 T) := PI_19 h (chT_in h h.2.1.1)
theorem PI_cmd {T : Nat → Int → Int} (h : PI T) : PI (cmdT T).2 := by
  have h0 := PI_cm0 h
  have h1 := fun q : 0 ≤ chT T (T 22 0) => PI_adv h0 (chT_lt q)
  unfold cmdT
  split
  · exact PI_dig (h1 (by omega)) (by omega)
  · split
    · exact PI_fog (h1 (by omega))
    · split
      · exact PI_pat (h1 (by omega))
      · split
        · exact PI_num (h1 (by omega))
        · exact h0
end Ps
section Tw13
variable {Γ : yG} {A : Nat → Nat} {T : Nat → Int → Int} {G : yH}
set_option maxHeartbeats 4000000
theorem m_signAt (hA : mA A) (hP : PI T) {p : Int} (hp : 0 ≤ p ∧ p ≤ 60) : Ct_X3_signAt Γ 1 0 0 [.ref (A 0), .int (iI (p))] (mH A T G) (fun v G' => v = some (.int (iI (chT T p))) ∧ G' = mH A T G) noX := by
  refine y_start (lv0 := [some (.ref (A 0)), some (.int (iI (p)))]) (nm := "signAt") (own := RX3) (by decide +kernel) rfl rfl (by exact Nat.le_of_ble_eq_true rfl) (by rfl) ?_
  intro Z Q E F
  have h17 := hP.1
  refine y_iload_n E dX3_signAt_0 (by rfl) ?_
  first | refine y_ald_n E dX3_signAt_1 (by rfl) ?_ | refine y_aload_n E dX3_signAt_1 (by rfl) ?_
  refine y_get E dX3_signAt_2 fl_X3_231_X3 (m_o hA _ _) (by rfl) ?_
  refine y_icmp_ge (tgt := 17) E dX3_signAt_5 (by decide) (by omega) (by omega) (fun h5 => ?_) (fun h5 => ?_)
  · refine y_iconst E dX3_signAt_17 ?_
    refine y_ireturn E F rfl rfl dX3_signAt_18 (by omega) (by omega) ⟨(rI (by unfold chT; first | rw [if_pos (by omega)] | rw [if_neg (by omega)])), rfl⟩
  · first | refine y_ald_n E dX3_signAt_8 (by rfl) ?_ | refine y_aload_n E dX3_signAt_8 (by rfl) ?_
    refine y_get E dX3_signAt_9 fl_X3_31_X3 (m_o hA _ _) (by rfl) ?_
    refine y_iload_n E dX3_signAt_12 (by rfl) ?_
    refine y_cald E dX3_signAt_13 (m_r15 hA _ _) (by omega) ?_
    refine y_goto (tgt := 18) E dX3_signAt_14 (by decide) ?_
    refine y_ireturn E F rfl rfl dX3_signAt_18 (by omega) (by omega) ⟨(rI (by unfold chT; first | rw [if_pos (by omega)] | rw [if_neg (by omega)])), rfl⟩
theorem m_takes (hA : mA A) (hP : PI T) {c : Int} (hc : inR c) : Ct_X3_takes Γ 2 0 0 [.ref (A 0), .int (iI (c))] (mH A T G) (fun v G' => v = some (.int (iI (b2i ((takT T c).1)))) ∧ G' = mH A ((takT T c).2) G) noX := by
  refine y_start (lv0 := [some (.ref (A 0)), some (.int (iI (c)))]) (nm := "takes") (own := RX3) (by decide +kernel) rfl rfl (by exact Nat.le_of_ble_eq_true rfl) (by rfl) ?_
  intro Z Q E F
  have h17 := hP.1
  have h22 := hP.2.1
  have hch := chT_in hP h22.1
  first | refine y_ald_n E dX3_takes_0 (by rfl) ?_ | refine y_aload_n E dX3_takes_0 (by rfl) ?_
  first | refine y_ald_n E dX3_takes_1 (by rfl) ?_ | refine y_aload_n E dX3_takes_1 (by rfl) ?_
  refine y_get E dX3_takes_2 fl_X3_247_X3 (m_o hA _ _) (by rfl) ?_
  refine y_callV E dX3_takes_5 lk_X3_250 (m_signAt hA ?_ ?_) (by rfl) (m_o hA _ _) rfl (by decide) (by omega) (by omega) rfl (Nat.le_of_ble_eq_true rfl) ?_ (fun _ _ _ h => h.elim)
  · exact hP
  · omega
  rintro _ _ ⟨rfl, rfl⟩
  refine y_iload_n E dX3_takes_8 (by rfl) ?_
  refine y_icmp_eq (tgt := 14) E dX3_takes_9 (by decide) (by omega) (by omega) (fun h9 => ?_) (fun h9 => ?_)
  · first | refine y_ald_n E dX3_takes_14 (by rfl) ?_ | refine y_aload_n E dX3_takes_14 (by rfl) ?_
    refine y_dup E dX3_takes_15 rfl ?_
    refine y_get E dX3_takes_16 fl_X3_247_X3 (m_o hA _ _) (by rfl) ?_
    refine y_iconst E dX3_takes_19 ?_
    refine y_iadd E dX3_takes_20 ?_
    refine y_put E dX3_takes_21 fl_X3_247_X3 fw_X3_22 rfl (by rfl) (m_o hA _ _) (Nat.le_of_ble_eq_true rfl) ?_
    refine y_heap (m_p22 hA) ?_
    refine y_iconst E dX3_takes_24 ?_
    refine y_ireturn E F rfl rfl dX3_takes_25 (by omega) (by omega) (by first | (rw [show takT T c = (true, advT T) from by unfold takT; rw [if_pos (by omega)]]; exact ⟨rfl, rfl⟩))
  · refine y_iconst E dX3_takes_12 ?_
    refine y_ireturn E F rfl rfl dX3_takes_13 (by omega) (by omega) (by first | (rw [show takT T c = (false, T) from by unfold takT; rw [if_neg (by omega)]]; exact ⟨rfl, rfl⟩))
theorem m_readsDigit (hA : mA A) (hP : PI T) {x : Int} (hx : 0 ≤ x ∧ x ≤ 9) : Ct_X3_readsDigit Γ 2 0 0 [.ref (A 0), .int (iI (x))] (mH A T G) (fun v G' => v = some (.int (iI (b2i ((digT T x).1)))) ∧ G' = mH A ((digT T x).2) G) noX := by
  refine y_start (lv0 := [some (.ref (A 0)), some (.int (iI (x)))]) (nm := "readsDigit") (own := RX3) (by decide +kernel) rfl rfl (by exact Nat.le_of_ble_eq_true rfl) (by rfl) ?_
  intro Z Q E F
  have h17 := hP.1
  have h22 := hP.2.1
  have h23 := hP.2.2.1
  have hch := chT_in hP h22.1
  first | refine y_ald_n E dX3_readsDigit_0 (by rfl) ?_ | refine y_aload_n E dX3_readsDigit_0 (by rfl) ?_
  first | refine y_ald_n E dX3_readsDigit_1 (by rfl) ?_ | refine y_aload_n E dX3_readsDigit_1 (by rfl) ?_
  refine y_get E dX3_readsDigit_2 fl_X3_247_X3 (m_o hA _ _) (by rfl) ?_
  refine y_callV E dX3_readsDigit_5 lk_X3_250 (m_signAt hA ?_ ?_) (by rfl) (m_o hA _ _) rfl (by decide) (by omega) (by omega) rfl (Nat.le_of_ble_eq_true rfl) ?_ (fun _ _ _ h => h.elim)
  · exact hP
  · omega
  rintro _ _ ⟨rfl, rfl⟩
  refine y_bipush E dX3_readsDigit_8 (by decide) ?_
  refine y_bipush E dX3_readsDigit_10 (by decide) ?_
  refine y_iload_n E dX3_readsDigit_12 (by rfl) ?_
  refine y_iadd E dX3_readsDigit_13 ?_
  refine y_callS E dX3_readsDigit_14 lk_X3_77 (m_isBetween ?_ ?_ ?_) (by rfl) (by decide) (by omega) (by omega) rfl (Nat.le_of_ble_eq_true rfl) ?_ (fun _ _ _ h => h.elim)
  · first | omega | (simp (decide := true) only [upN_s, upN_n, upN_upN, upN_id, remT_5, remT_8] <;> omega)
  · first | omega | (simp (decide := true) only [upN_s, upN_n, upN_upN, upN_id, remT_5, remT_8] <;> omega)
  · first | omega | (simp (decide := true) only [upN_s, upN_n, upN_upN, upN_id, remT_5, remT_8] <;> omega)
  rintro _ _ ⟨rfl, rfl⟩
  refine y_ifd_ne (tgt := 22) E dX3_readsDigit_17 (by decide) (fun h17 => ?_) (fun h17 => ?_)
  · first | refine y_ald_n E dX3_readsDigit_22 (by rfl) ?_ | refine y_aload_n E dX3_readsDigit_22 (by rfl) ?_
    refine y_get E dX3_readsDigit_23 fl_X3_41_X3 (m_o hA _ _) (by rfl) ?_
    first | refine y_ald_n E dX3_readsDigit_26 (by rfl) ?_ | refine y_aload_n E dX3_readsDigit_26 (by rfl) ?_
    refine y_get E dX3_readsDigit_27 fl_X3_253_X3 (m_o hA _ _) (by rfl) ?_
    first | refine y_ald_n E dX3_readsDigit_30 (by rfl) ?_ | refine y_aload_n E dX3_readsDigit_30 (by rfl) ?_
    first | refine y_ald_n E dX3_readsDigit_31 (by rfl) ?_ | refine y_aload_n E dX3_readsDigit_31 (by rfl) ?_
    refine y_get E dX3_readsDigit_32 fl_X3_247_X3 (m_o hA _ _) (by rfl) ?_
    refine y_callV E dX3_readsDigit_35 lk_X3_250 (m_signAt hA ?_ ?_) (by rfl) (m_o hA _ _) rfl (by decide) (by omega) (by omega) rfl (Nat.le_of_ble_eq_true rfl) ?_ (fun _ _ _ h => h.elim)
    · exact hP
    · omega
    rintro _ _ ⟨rfl, rfl⟩
    refine y_bipush E dX3_readsDigit_38 (by decide) ?_
    refine y_isub E dX3_readsDigit_40 ?_
    refine y_iast E dX3_readsDigit_41 (m_r20 hA _ _) (by omega) ?_
    refine y_heap (m_w20 hA) ?_
    try simp (decide := true) only [upN_s, upN_n, upN_upN, upN_id, remT_5, remT_8]
    first | refine y_ald_n E dX3_readsDigit_42 (by rfl) ?_ | refine y_aload_n E dX3_readsDigit_42 (by rfl) ?_
    refine y_dup E dX3_readsDigit_43 rfl ?_
    refine y_get E dX3_readsDigit_44 fl_X3_247_X3 (m_o hA _ _) (by rfl) ?_
    try simp (decide := true) only [upN_s, upN_n, upN_upN, upN_id, remT_5, remT_8]
    refine y_iconst E dX3_readsDigit_47 ?_
    refine y_iadd E dX3_readsDigit_48 ?_
    refine y_put E dX3_readsDigit_49 fl_X3_247_X3 fw_X3_22 rfl (by rfl) (m_o hA _ _) (Nat.le_of_ble_eq_true rfl) ?_
    refine y_heap (m_p22 hA) ?_
    refine y_iconst E dX3_readsDigit_52 ?_
    refine y_ireturn E F rfl rfl dX3_readsDigit_53 (by omega) (by omega) (by first | (rw [show digT T x = (true, advT (upN T 20 (upI (T 20) (T 23 0) (chT T (T 22 0) - 48)))) from by unfold digT; rw [if_pos (by omega)]]; exact ⟨rfl, rfl⟩))
  · refine y_iconst E dX3_readsDigit_20 ?_
    refine y_ireturn E F rfl rfl dX3_readsDigit_21 (by omega) (by omega) (by first | (rw [show digT T x = (false, T) from by unfold digT; rw [if_neg (by omega)]]; exact ⟨rfl, rfl⟩))
end Tw13
