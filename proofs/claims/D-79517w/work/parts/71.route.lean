/-! ===== the twin: routes ===== -/
section Rt
noncomputable def rowR (w : Int → Int) (o t : Int) (g : Int → Int) (i : Int) : Int → Int := fun j => if 0 ≤ j ∧ j < i then rtS w o t j else g j
theorem rowR_0 (w : Int → Int) (o t : Int) (g : Int → Int) : rowR w o t g 0 = g := by
  funext j
  unfold rowR
  rw [if_neg (by omega)]
theorem rowR_s {w : Int → Int} {o t i : Int} {g : Int → Int} (h : 0 ≤ i) : upI (rowR w o t g i) i (rtS w o t i) = rowR w o t g (i + 1) := by
  funext j
  unfold upI rowR
  by_cases e : j = i
  · subst e
    rw [if_pos rfl, if_pos (by omega)]
  · rw [if_neg e]
    by_cases e2 : 0 ≤ j ∧ j < i
    · rw [if_pos e2, if_pos (by omega)]
    · rw [if_neg e2, if_neg (by omega)]
/-- behind the search of a route from a to b -/
noncomputable def frT (T : Nat → Int → Int) (a b : Int) : Nat → Int → Int := if dS (T 5) b a < 0 then upN T 12 (farRow (T 5) b (T 12)) else upN (upN (upN T 12 (farRow (T 5) b (T 12))) 14 (fun _ => dS (T 5) b a)) 13 (rowR (T 5) b a (T 13) (dS (T 5) b a + 1))
theorem frT_k (T : Nat → Int → Int) (a b : Int) {k : Nat} (h1 : k ≠ 12) (h2 : k ≠ 13) (h3 : k ≠ 14) : frT T a b k = T k := by
  unfold frT
  split
  · rw [upN_n _ h1]
  · rw [upN_n _ h2, upN_n _ h3, upN_n _ h1]
theorem frT_14 {T : Nat → Int → Int} {a b : Int} (h : 0 ≤ dS (T 5) b a) : frT T a b 14 = fun _ => dS (T 5) b a := by
  unfold frT
  rw [if_neg (by omega)]
  rfl
theorem frT_13 {T : Nat → Int → Int} {a b : Int} (h : 0 ≤ dS (T 5) b a) : frT T a b 13 = rowR (T 5) b a (T 13) (dS (T 5) b a + 1) := by
  unfold frT
  rw [if_neg (by omega)]
  rfl
theorem upN_sw {α : Type} {f : Nat → α} {i j : Nat} (h : i ≠ j) (a b c : α) : upN (upN (upN f i a) j b) i c = upN (upN f i c) j b := by
  funext k
  simp only [upN]
  by_cases e : k = i
  · subst e
    simp [h]
  · simp [e]
def towsP (w : Int → Int) (a b : Int) : Prop := (0 ≤ a ∧ a ≤ w 10 - 1) ∧ 0 ≤ b ∧ b ≤ w 10 - 1
noncomputable def o_signals (T : Nat → Int → Int) (a b : Int) : Int × (Nat → Int → Int) := if ¬ ((0 ≤ a ∧ a ≤ T 5 10 - 1) ∧ 0 ≤ b ∧ b ≤ T 5 10 - 1) then (0, failT T 1) else if dS (T 5) b a < 0 then (0, upN (frT (upN T 0 (fun _ => 0)) a b) 0 (fun _ => 2)) else (dS (T 5) b a, frT (upN T 0 (fun _ => 0)) a b)
noncomputable def o_route (T : Nat → Int → Int) (a b i : Int) : Int × (Nat → Int → Int) := if ¬ ((0 ≤ a ∧ a ≤ T 5 10 - 1) ∧ 0 ≤ b ∧ b ≤ T 5 10 - 1) then (0, failT T 1) else if 0 ≤ dS (T 5) b a ∧ 0 ≤ i ∧ i ≤ dS (T 5) b a then (rtS (T 5) b a i, frT (upN T 0 (fun _ => 0)) a b) else (0, upN (frT (upN T 0 (fun _ => 0)) a b) 0 (fun _ => 2))
noncomputable def q_sigA (w : Int → Int) (a b : Int) : Int × Int := if ¬ ((0 ≤ a ∧ a ≤ w 10 - 1) ∧ 0 ≤ b ∧ b ≤ w 10 - 1) then (1, 0) else if dS w b a < 0 then (2, 0) else (0, dS w b a)
/-- one signal further -/
theorem RL_fw {w : Int → Int} {t j : Int} {n : Nat} : RL w j (n + 1) t ↔ RL w j n t ∨ ((0 ≤ j ∧ j < w 10) ∧ ∃ a, (0 ≤ a ∧ a < w 10) ∧ RL w a n t ∧ csP w a j) := by
  constructor
  · rintro ⟨k, h1, h2⟩
    by_cases e : k ≤ n
    · exact Or.inl ⟨k, e, h2⟩
    · have : k = n + 1 := by omega
      subst this
      obtain ⟨a, a1, a2, a3, a4⟩ := pth_last h2
      exact Or.inr ⟨a4, a, a1, ⟨n, Nat.le_refl _, a2⟩, a3⟩
  · rintro (h | ⟨hj, a, ha, ⟨k, k1, k2⟩, hc⟩)
    · exact RL_up h (by omega)
    · exact ⟨k + 1, by omega, pth_add k k2 ⟨ha, j, hj, hc, rfl⟩⟩
theorem tb_bit (x k : Nat) : x / 2 ^ k % 2 ^ 1 = 1 ↔ x.testBit k = true := by
  rw [Nat.testBit_eq_decide_div_mod_eq]
  simp
theorem tb_or (x b k : Nat) : (x ||| 2 ^ b).testBit k = true ↔ x.testBit k = true ∨ k = b := by
  rw [Nat.testBit_or, Nat.testBit_two_pow, Bool.or_eq_true, decide_eq_true_iff]
  exact or_congr Iff.rfl eq_comm
theorem tb_or_lt {x b : Nat} (hx : x < 256) (hb : b < 8) : x ||| 2 ^ b < 256 := by
  have : 2 ^ b < 2 ^ 8 := Nat.pow_lt_pow_right (by decide) hb
  exact Nat.or_lt_two_pow (n := 8) hx this
end Rt
section Tw11
variable {Γ : yG} {A : Nat → Nat} {T : Nat → Int → Int} {G : yH}
set_option maxHeartbeats 4000000
theorem m_nextOf (hA : mA A) (hS : SH (T 5)) {o : Int} {g : Int → Int} (hF : T 12 = farRow (T 5) o g) (ho : 0 ≤ o ∧ o < T 5 10) {t : Int} (ht : 0 ≤ t ∧ t < T 5 10) (hd : 0 < dS (T 5) o t) : Ct_X3_nextOf Γ 6 0 0 [.ref (A 0), .int (iI (t))] (mH A T G) (fun v G' => v = some (.int (iI (nxS (T 5) o t))) ∧ G' = mH A T G) noX := by
  refine y_start (lv0 := [some (.ref (A 0)), some (.int (iI (t))), none]) (nm := "nextOf") (own := RX3) (by decide +kernel) rfl rfl (by exact Nat.le_of_ble_eq_true rfl) (by rfl) ?_
  intro Z Q E F
  have hn := hS.nt
  have hk : ∀ k, 0 ≤ k → k < 8 → T 12 k = fS (T 5) o k := fun k a b => by rw [hF]; unfold farRow; rw [if_pos ⟨a, b⟩]
  have hkt := hk t ht.1 (by omega)
  have hdt := dS_in (t := t) hn ho
  have loop : ∀ i : Int, 0 ≤ i → i ≤ T 5 10 → (∀ j, 0 ≤ j → j < i → ¬ (fun k => csP (T 5) t k ∧ dS (T 5) o k = dS (T 5) o t - 1) j) → Y Γ Z 0 0 Q (mH A T G) 2 [some (.ref (A 0)), some (.int (iI t)), some (.int (iI i))] [] := by
    refine loopDown (T 5 10) ?_
    intro i ih h0 h1 hj
    have hki := fun h : i < 8 => hk i h0 h
    have hdi := dS_in (t := i) hn ho
    have hfi : fS (T 5) o i = if dS (T 5) o i < 0 then 1000 else dS (T 5) o i := rfl
    have hft : fS (T 5) o t = if dS (T 5) o t < 0 then 1000 else dS (T 5) o t := rfl
    refine y_iload_n E dX3_nextOf_2 (by rfl) ?_
    first | refine y_ald_n E dX3_nextOf_3 (by rfl) ?_ | refine y_aload_n E dX3_nextOf_3 (by rfl) ?_
    refine y_get E dX3_nextOf_4 fl_X3_13_X3 (m_o hA _ _) (by rfl) ?_
    refine y_bipush E dX3_nextOf_7 (by decide) ?_
    refine y_iald E dX3_nextOf_9 (m_r5 hA _ _) (by omega) ?_
    refine y_icmp_ge (tgt := 47) E dX3_nextOf_10 (by decide) (by omega) (by omega) (fun h10 => ?_) (fun h10 => ?_)
    · refine y_iconst E dX3_nextOf_47 ?_
      refine y_ireturn E F rfl rfl dX3_nextOf_48 (by omega) (by omega) ⟨rI (fst_miss (by omega) (fun j q1 q2 => hj j q1 (by omega))).symm, rfl⟩
    · first | refine y_ald_n E dX3_nextOf_13 (by rfl) ?_ | refine y_aload_n E dX3_nextOf_13 (by rfl) ?_
      refine y_iload_n E dX3_nextOf_14 (by rfl) ?_
      refine y_iload_n E dX3_nextOf_15 (by rfl) ?_
      refine y_callV E dX3_nextOf_16 lk_X3_213 (m_canSignal hA ?_ ?_ ?_) (by rfl) (m_o hA _ _) rfl (by decide) (by omega) (by omega) rfl (Nat.le_of_ble_eq_true rfl) ?_ (fun _ _ _ h => h.elim)
      · exact hS
      · first | omega | (simp (decide := true) only [upN_s, upN_n, upN_upN, upN_id, remT_5, remT_8] <;> omega)
      · first | omega | (simp (decide := true) only [upN_s, upN_n, upN_upN, upN_id, remT_5, remT_8] <;> omega)
      rintro _ _ ⟨rfl, rfl⟩
      refine y_ifd_eq (tgt := 41) E dX3_nextOf_19 (by decide) (fun h19 => ?_) (fun h19 => ?_)
      · refine y_iinc E dX3_nextOf_41 (by rfl) ?_
        refine y_goto (tgt := 2) E dX3_nextOf_44 (by decide) ?_
        exact ih (by omega) (by omega) (by omega) (low_s hj (fun q => by first | exact h19 q.1 | (have := q.2; omega)))
      · have hki := hki (by omega)
        first | refine y_ald_n E dX3_nextOf_22 (by rfl) ?_ | refine y_aload_n E dX3_nextOf_22 (by rfl) ?_
        refine y_get E dX3_nextOf_23 fl_X3_25_X3 (m_o hA _ _) (by rfl) ?_
        refine y_iload_n E dX3_nextOf_26 (by rfl) ?_
        refine y_iald E dX3_nextOf_27 (m_r12 hA _ _) (by omega) ?_
        refine y_iconst E dX3_nextOf_28 ?_
        refine y_iadd E dX3_nextOf_29 ?_
        first | refine y_ald_n E dX3_nextOf_30 (by rfl) ?_ | refine y_aload_n E dX3_nextOf_30 (by rfl) ?_
        refine y_get E dX3_nextOf_31 fl_X3_25_X3 (m_o hA _ _) (by rfl) ?_
        refine y_iload_n E dX3_nextOf_34 (by rfl) ?_
        refine y_iald E dX3_nextOf_35 (m_r12 hA _ _) (by omega) ?_
        refine y_icmp_ne (tgt := 41) E dX3_nextOf_36 (by decide) (by omega) (by omega) (fun h36 => ?_) (fun h36 => ?_)
        · refine y_iinc E dX3_nextOf_41 (by rfl) ?_
          refine y_goto (tgt := 2) E dX3_nextOf_44 (by decide) ?_
          exact ih (by omega) (by omega) (by omega) (low_s hj (fun q => by first | exact h19 q.1 | (have := q.2; omega)))
        · refine y_iload_n E dX3_nextOf_39 (by rfl) ?_
          refine y_ireturn E F rfl rfl dX3_nextOf_40 (by omega) (by omega) ⟨rI (fst_hit h0 (by omega) ⟨h19, by omega⟩ hj).symm, rfl⟩
  refine y_iconst E dX3_nextOf_0 ?_
  refine y_istore_n (j := 2) E dX3_nextOf_1 rfl (Nat.le_of_ble_eq_true rfl) ?_
  exact loop 0 (by omega) (by omega) (fun j h1 h2 => by omega)
theorem m_findRoute (hA : mA A) (hS : SH (T 5)) {a o : Int} (ha : 0 ≤ a ∧ a < T 5 10) (ho : 0 ≤ o ∧ o < T 5 10) : Ct_X3_findRoute Γ 7 0 0 [.ref (A 0), .int (iI (a)), .int (iI (o))] (mH A T G) (fun v G' => v = some (.int (iI (b2i (dB (0 ≤ dS (T 5) o a))))) ∧ G' = mH A (frT T a o) G) noX := by
  refine y_start (lv0 := [some (.ref (A 0)), some (.int (iI (a))), some (.int (iI (o))), none]) (nm := "findRoute") (own := RX3) (by decide +kernel) rfl rfl (by exact Nat.le_of_ble_eq_true rfl) (by rfl) ?_
  intro Z Q E F
  have hn := hS.nt
  have hda := dS_in (t := a) hn ho
  have hfa : farRow (T 5) o (T 12) a = if dS (T 5) o a < 0 then 1000 else dS (T 5) o a := by unfold farRow; rw [if_pos (by omega)]; rfl
  have loop : 0 ≤ dS (T 5) o a → ∀ i : Int, ∀ x : Int, x = rtS (T 5) o a i → 0 ≤ i → i ≤ dS (T 5) o a → Y Γ Z 0 0 Q (mH A (upN (upN (upN T 12 (farRow (T 5) o (T 12))) 14 (fun _ => i)) 13 (rowR (T 5) o a (T 13) i)) G) 26 [some (.ref (A 0)), some (.int (iI a)), some (.int (iI o)), some (.int (iI x))] [] := by
    intro hd
    refine loopDown (dS (T 5) o a) ?_
    intro i ih x hx h0 h1
    obtain ⟨r1, r2⟩ := rtS_ok hn.1 ha hd i h0 h1
    rw [← hx] at r1 r2
    have h00 := dS_0 (w := T 5) (o := o) (t := x)
    refine y_iload_n E dX3_findRoute_26 (by rfl) ?_
    refine y_iload_n E dX3_findRoute_27 (by rfl) ?_
    refine y_icmp_eq (tgt := 60) E dX3_findRoute_28 (by decide) (by omega) (by omega) (fun h28 => ?_) (fun h28 => ?_)
    · first | refine y_ald_n E dX3_findRoute_60 (by rfl) ?_ | refine y_aload_n E dX3_findRoute_60 (by rfl) ?_
      refine y_get E dX3_findRoute_61 fl_X3_28_X3 (m_o hA _ _) (by rfl) ?_
      first | refine y_ald_n E dX3_findRoute_64 (by rfl) ?_ | refine y_aload_n E dX3_findRoute_64 (by rfl) ?_
      refine y_get E dX3_findRoute_65 fl_X3_222_X3 (m_o hA _ _) (by rfl) ?_
      try simp (decide := true) only [upN_s, upN_n, upN_upN, upN_id, remT_5, remT_8]
      refine y_iload_n E dX3_findRoute_68 (by rfl) ?_
      refine y_iast E dX3_findRoute_69 (m_r13 hA _ _) (by omega) ?_
      refine y_heap (m_w13 hA) ?_
      try simp (decide := true) only [upN_s, upN_n, upN_upN, upN_id, remT_5, remT_8]
      refine y_iconst E dX3_findRoute_70 ?_
      refine y_ireturn E F rfl rfl dX3_findRoute_71 (by omega) (by omega) ⟨rT hd, by rw [show frT T a o = upN (upN (upN T 12 (farRow (T 5) o (T 12))) 14 (fun _ => dS (T 5) o a)) 13 (rowR (T 5) o a (T 13) (dS (T 5) o a + 1)) from by unfold frT; rw [if_neg (by omega)], ← rowR_s hd, show dS (T 5) o a = i by have := h00.mpr h28; omega, ← hx, h28]⟩
    · first | refine y_ald_n E dX3_findRoute_31 (by rfl) ?_ | refine y_aload_n E dX3_findRoute_31 (by rfl) ?_
      refine y_get E dX3_findRoute_32 fl_X3_28_X3 (m_o hA _ _) (by rfl) ?_
      first | refine y_ald_n E dX3_findRoute_35 (by rfl) ?_ | refine y_aload_n E dX3_findRoute_35 (by rfl) ?_
      refine y_get E dX3_findRoute_36 fl_X3_222_X3 (m_o hA _ _) (by rfl) ?_
      try simp (decide := true) only [upN_s, upN_n, upN_upN, upN_id, remT_5, remT_8]
      refine y_iload_n E dX3_findRoute_39 (by rfl) ?_
      refine y_iast E dX3_findRoute_40 (m_r13 hA _ _) (by omega) ?_
      refine y_heap (m_w13 hA) ?_
      try simp (decide := true) only [upN_s, upN_n, upN_upN, upN_id, remT_5, remT_8]
      rw [hx, rowR_s h0, ← hx]
      first | refine y_ald_n E dX3_findRoute_41 (by rfl) ?_ | refine y_aload_n E dX3_findRoute_41 (by rfl) ?_
      refine y_dup E dX3_findRoute_42 rfl ?_
      refine y_get E dX3_findRoute_43 fl_X3_222_X3 (m_o hA _ _) (by rfl) ?_
      try simp (decide := true) only [upN_s, upN_n, upN_upN, upN_id, remT_5, remT_8]
      refine y_iconst E dX3_findRoute_46 ?_
      refine y_iadd E dX3_findRoute_47 ?_
      refine y_put E dX3_findRoute_48 fl_X3_222_X3 fw_X3_14 rfl (by rfl) (m_o hA _ _) (Nat.le_of_ble_eq_true rfl) ?_
      refine y_heap (m_p14 hA) ?_
      refine y_heap (show _ = mH A (upN (upN (upN T 12 (farRow (T 5) o (T 12))) 14 (fun _ => i + 1)) 13 (rowR (T 5) o a (T 13) (i + 1))) G from congrArg (fun T => mH A T G) (upN_sw (by decide) _ _ _)) ?_
      first | refine y_ald_n E dX3_findRoute_51 (by rfl) ?_ | refine y_aload_n E dX3_findRoute_51 (by rfl) ?_
      refine y_iload_n E dX3_findRoute_52 (by rfl) ?_
      refine y_callV E dX3_findRoute_53 lk_X3_225 (m_nextOf hA ?_ (o := o) (g := T 12) ?_ ?_ ?_ ?_) (by rfl) (m_o hA _ _) rfl (by decide) (by omega) (by omega) rfl (Nat.le_of_ble_eq_true rfl) ?_ (fun _ _ _ h => h.elim)
      · exact hS
      · exact rfl
      · exact ho
      · exact r1
      · (show 0 < dS (T 5) o x; have := fun e => h28 (h00.mp e); omega)
      rintro _ _ ⟨rfl, rfl⟩
      try simp (decide := true) only [upN_s, upN_n, upN_upN, upN_id, remT_5, remT_8]
      refine y_istore_n (j := 3) E dX3_findRoute_56 rfl (Nat.le_of_ble_eq_true rfl) ?_
      refine y_goto (tgt := 26) E dX3_findRoute_57 (by decide) ?_
      exact ih (by have := fun e => h28 (h00.mp e); omega) _ (by rw [rtS_s h0, ← hx]) (by omega) (by have := fun e => h28 (h00.mp e); omega)
  first | refine y_ald_n E dX3_findRoute_0 (by rfl) ?_ | refine y_aload_n E dX3_findRoute_0 (by rfl) ?_
  refine y_iload_n E dX3_findRoute_1 (by rfl) ?_
  refine y_callV E dX3_findRoute_2 lk_X3_219 (m_findFar hA ?_ ?_) (by rfl) (m_o hA _ _) rfl (by decide) (by omega) (by omega) rfl (Nat.le_of_ble_eq_true rfl) ?_ (fun _ _ _ h => h.elim)
  · exact hS
  · exact ho
  rintro _ _ ⟨rfl, rfl⟩
  try simp (decide := true) only [upN_s, upN_n, upN_upN, upN_id, remT_5, remT_8]
  first | refine y_ald_n E dX3_findRoute_5 (by rfl) ?_ | refine y_aload_n E dX3_findRoute_5 (by rfl) ?_
  refine y_get E dX3_findRoute_6 fl_X3_25_X3 (m_o hA _ _) (by rfl) ?_
  refine y_iload_n E dX3_findRoute_9 (by rfl) ?_
  refine y_iald E dX3_findRoute_10 (m_r12 hA _ _) (by omega) ?_
  try simp (decide := true) only [upN_s, upN_n, upN_upN, upN_id, remT_5, remT_8]
  refine y_sipush E dX3_findRoute_11 (by decide) ?_
  refine y_icmp_lt (tgt := 19) E dX3_findRoute_14 (by decide) (by omega) (by omega) (fun h14 => ?_) (fun h14 => ?_)
  · first | refine y_ald_n E dX3_findRoute_19 (by rfl) ?_ | refine y_aload_n E dX3_findRoute_19 (by rfl) ?_
    refine y_iconst E dX3_findRoute_20 ?_
    refine y_put E dX3_findRoute_21 fl_X3_222_X3 fw_X3_14 rfl (by rfl) (m_o hA _ _) (Nat.le_of_ble_eq_true rfl) ?_
    refine y_heap (m_p14 hA) ?_
    refine y_iload_n E dX3_findRoute_24 (by rfl) ?_
    refine y_istore_n (j := 3) E dX3_findRoute_25 rfl (Nat.le_of_ble_eq_true rfl) ?_
    refine y_heap (show _ = mH A (upN (upN (upN T 12 (farRow (T 5) o (T 12))) 14 (fun _ => 0)) 13 (rowR (T 5) o a (T 13) 0)) G from ?_) (loop (by omega) 0 a (rtS_0 _ _ _).symm (by omega) (by omega))
    rw [rowR_0]
    exact congrArg (fun T => mH A T G) (upN_id (upN (upN T 12 (farRow (T 5) o (T 12))) 14 (fun _ => 0)) 13).symm
  · refine y_iconst E dX3_findRoute_17 ?_
    refine y_ireturn E F rfl rfl dX3_findRoute_18 (by omega) (by omega) ⟨rF (by omega), by unfold frT; rw [if_pos (by omega)]⟩
theorem m_signals (hA : mA A) (hS : SH (T 5)) {a b : Int} (ha : inR a) (hb : inR b) : Ct_X3_signals Γ 8 0 0 [.ref (A 0), .int (iI (a)), .int (iI (b))] (mH A T G) (fun v G' => v = some (.int (iI ((o_signals T a b).1))) ∧ G' = mH A ((o_signals T a b).2) G) noX := by
  refine y_start (lv0 := [some (.ref (A 0)), some (.int (iI (a))), some (.int (iI (b)))]) (nm := "signals") (own := RX3) (by decide +kernel) rfl rfl (by exact Nat.le_of_ble_eq_true rfl) (by rfl) ?_
  intro Z Q E F
  have hn := hS.nt
  first | refine y_ald_n E dX3_signals_0 (by rfl) ?_ | refine y_aload_n E dX3_signals_0 (by rfl) ?_
  refine y_iconst E dX3_signals_1 ?_
  refine y_put E dX3_signals_2 fl_X3_51_X3 fw_X3_0 rfl (by rfl) (m_o hA _ _) (Nat.le_of_ble_eq_true rfl) ?_
  refine y_heap (m_p0 hA) ?_
  first | refine y_ald_n E dX3_signals_5 (by rfl) ?_ | refine y_aload_n E dX3_signals_5 (by rfl) ?_
  refine y_iload_n E dX3_signals_6 (by rfl) ?_
  refine y_callV E dX3_signals_7 lk_X3_148 (m_isTower hA ?_ ?_) (by rfl) (m_o hA _ _) rfl (by decide) (by omega) (by omega) rfl (Nat.le_of_ble_eq_true rfl) ?_ (fun _ _ _ h => h.elim)
  · exact hS
  · first | omega | (simp (decide := true) only [upN_s, upN_n, upN_upN, upN_id, remT_5, remT_8] <;> omega)
  rintro _ _ ⟨rfl, rfl⟩
  try simp (decide := true) only [upN_s, upN_n, upN_upN, upN_id, remT_5, remT_8]
  refine y_ifd_eq (tgt := 21) E dX3_signals_10 (by decide) (fun h10 => ?_) (fun h10 => ?_)
  · first | refine y_ald_n E dX3_signals_21 (by rfl) ?_ | refine y_aload_n E dX3_signals_21 (by rfl) ?_
    refine y_iconst E dX3_signals_22 ?_
    refine y_callV E dX3_signals_23 lk_X3_63 (m_fails hA) (by rfl) (m_o hA _ _) rfl (by decide) (by omega) (by omega) rfl (Nat.le_of_ble_eq_true rfl) ?_ (fun _ _ _ h => h.elim)
    rintro _ _ ⟨rfl, rfl⟩
    try simp (decide := true) only [upN_s, upN_n, upN_upN, upN_id, remT_5, remT_8]
    refine y_ireturn E F rfl rfl dX3_signals_26 (by omega) (by omega) (by first | (rw [show o_signals T a b = (0, failT T 1) from by unfold o_signals; rw [if_pos (by omega)]]; exact ⟨rfl, rfl⟩))
  · first | refine y_ald_n E dX3_signals_13 (by rfl) ?_ | refine y_aload_n E dX3_signals_13 (by rfl) ?_
    refine y_iload_n E dX3_signals_14 (by rfl) ?_
    refine y_callV E dX3_signals_15 lk_X3_148 (m_isTower hA ?_ ?_) (by rfl) (m_o hA _ _) rfl (by decide) (by omega) (by omega) rfl (Nat.le_of_ble_eq_true rfl) ?_ (fun _ _ _ h => h.elim)
    · exact hS
    · first | omega | (simp (decide := true) only [upN_s, upN_n, upN_upN, upN_id, remT_5, remT_8] <;> omega)
    rintro _ _ ⟨rfl, rfl⟩
    try simp (decide := true) only [upN_s, upN_n, upN_upN, upN_id, remT_5, remT_8]
    refine y_ifd_ne (tgt := 27) E dX3_signals_18 (by decide) (fun h18 => ?_) (fun h18 => ?_)
    · first | refine y_ald_n E dX3_signals_27 (by rfl) ?_ | refine y_aload_n E dX3_signals_27 (by rfl) ?_
      refine y_iload_n E dX3_signals_28 (by rfl) ?_
      refine y_iload_n E dX3_signals_29 (by rfl) ?_
      refine y_callV E dX3_signals_30 lk_X3_228 (m_findRoute hA ?_ ?_ ?_) (by rfl) (m_o hA _ _) rfl (by decide) (by omega) (by omega) rfl (Nat.le_of_ble_eq_true rfl) ?_ (fun _ _ _ h => h.elim)
      · exact hS
      · (show 0 ≤ a ∧ a < T 5 10; omega)
      · (show 0 ≤ b ∧ b < T 5 10; omega)
      rintro _ _ ⟨rfl, rfl⟩
      try simp (decide := true) only [upN_s, upN_n, upN_upN, upN_id, remT_5, remT_8]
      have e14 := fun h : 0 ≤ dS (T 5) b a => frT_14 (T := upN T 0 (fun _ => 0)) (a := a) (b := b) h
      refine y_ifd_eq (tgt := 43) E dX3_signals_33 (by decide) (fun h33 => ?_) (fun h33 => ?_)
      · first | refine y_ald_n E dX3_signals_43 (by rfl) ?_ | refine y_aload_n E dX3_signals_43 (by rfl) ?_
        refine y_iconst E dX3_signals_44 ?_
        refine y_callV E dX3_signals_45 lk_X3_63 (m_fails hA) (by rfl) (m_o hA _ _) rfl (by decide) (by omega) (by omega) rfl (Nat.le_of_ble_eq_true rfl) ?_ (fun _ _ _ h => h.elim)
        rintro _ _ ⟨rfl, rfl⟩
        try simp (decide := true) only [upN_s, upN_n, upN_upN, upN_id, remT_5, remT_8]
        refine y_ireturn E F rfl rfl dX3_signals_48 (by omega) (by omega) (by first | (rw [show o_signals T a b = (0, upN (frT (upN T 0 (fun _ => 0)) a b) 0 (fun _ => 2)) from by unfold o_signals; rw [if_neg (by omega), if_pos (by omega)]]; exact ⟨rfl, rfl⟩) | (rw [show o_signals T a b = (dS (T 5) b a, frT (upN T 0 (fun _ => 0)) a b) from by unfold o_signals; rw [if_neg (by omega), if_neg (by omega)]]; exact ⟨rfl, rfl⟩))
      · first | refine y_ald_n E dX3_signals_36 (by rfl) ?_ | refine y_aload_n E dX3_signals_36 (by rfl) ?_
        refine y_get E dX3_signals_37 fl_X3_222_X3 (m_o hA _ _) (by rfl) ?_
        try simp (decide := true) only [upN_s, upN_n, upN_upN, upN_id, remT_5, remT_8]
        rw [e14 h33]
        refine y_goto (tgt := 48) E dX3_signals_40 (by decide) ?_
        refine y_ireturn E F rfl rfl dX3_signals_48 (by omega) (by omega) (by first | (rw [show o_signals T a b = (0, upN (frT (upN T 0 (fun _ => 0)) a b) 0 (fun _ => 2)) from by unfold o_signals; rw [if_neg (by omega), if_pos (by omega)]]; exact ⟨rfl, rfl⟩) | (rw [show o_signals T a b = (dS (T 5) b a, frT (upN T 0 (fun _ => 0)) a b) from by unfold o_signals; rw [if_neg (by omega), if_neg (by omega)]]; exact ⟨rfl, rfl⟩))
    · first | refine y_ald_n E dX3_signals_21 (by rfl) ?_ | refine y_aload_n E dX3_signals_21 (by rfl) ?_
      refine y_iconst E dX3_signals_22 ?_
      refine y_callV E dX3_signals_23 lk_X3_63 (m_fails hA) (by rfl) (m_o hA _ _) rfl (by decide) (by omega) (by omega) rfl (Nat.le_of_ble_eq_true rfl) ?_ (fun _ _ _ h => h.elim)
      rintro _ _ ⟨rfl, rfl⟩
      try simp (decide := true) only [upN_s, upN_n, upN_upN, upN_id, remT_5, remT_8]
      refine y_ireturn E F rfl rfl dX3_signals_26 (by omega) (by omega) (by first | (rw [show o_signals T a b = (0, failT T 1) from by unfold o_signals; rw [if_pos (by omega)]]; exact ⟨rfl, rfl⟩))
theorem m_route (hA : mA A) (hS : SH (T 5)) {a b i : Int} (ha : inR a) (hb : inR b) (hi : inR i) : Ct_X3_route Γ 8 0 0 [.ref (A 0), .int (iI (a)), .int (iI (b)), .int (iI (i))] (mH A T G) (fun v G' => v = some (.int (iI ((o_route T a b i).1))) ∧ G' = mH A ((o_route T a b i).2) G) noX := by
  refine y_start (lv0 := [some (.ref (A 0)), some (.int (iI (a))), some (.int (iI (b))), some (.int (iI (i)))]) (nm := "route") (own := RX3) (by decide +kernel) rfl rfl (by exact Nat.le_of_ble_eq_true rfl) (by rfl) ?_
  intro Z Q E F
  have hn := hS.nt
  first | refine y_ald_n E dX3_route_0 (by rfl) ?_ | refine y_aload_n E dX3_route_0 (by rfl) ?_
  refine y_iconst E dX3_route_1 ?_
  refine y_put E dX3_route_2 fl_X3_51_X3 fw_X3_0 rfl (by rfl) (m_o hA _ _) (Nat.le_of_ble_eq_true rfl) ?_
  refine y_heap (m_p0 hA) ?_
  first | refine y_ald_n E dX3_route_5 (by rfl) ?_ | refine y_aload_n E dX3_route_5 (by rfl) ?_
  refine y_iload_n E dX3_route_6 (by rfl) ?_
  refine y_callV E dX3_route_7 lk_X3_148 (m_isTower hA ?_ ?_) (by rfl) (m_o hA _ _) rfl (by decide) (by omega) (by omega) rfl (Nat.le_of_ble_eq_true rfl) ?_ (fun _ _ _ h => h.elim)
  · exact hS
  · first | omega | (simp (decide := true) only [upN_s, upN_n, upN_upN, upN_id, remT_5, remT_8] <;> omega)
  rintro _ _ ⟨rfl, rfl⟩
  try simp (decide := true) only [upN_s, upN_n, upN_upN, upN_id, remT_5, remT_8]
  refine y_ifd_eq (tgt := 21) E dX3_route_10 (by decide) (fun h10 => ?_) (fun h10 => ?_)
  · first | refine y_ald_n E dX3_route_21 (by rfl) ?_ | refine y_aload_n E dX3_route_21 (by rfl) ?_
    refine y_iconst E dX3_route_22 ?_
    refine y_callV E dX3_route_23 lk_X3_63 (m_fails hA) (by rfl) (m_o hA _ _) rfl (by decide) (by omega) (by omega) rfl (Nat.le_of_ble_eq_true rfl) ?_ (fun _ _ _ h => h.elim)
    rintro _ _ ⟨rfl, rfl⟩
    try simp (decide := true) only [upN_s, upN_n, upN_upN, upN_id, remT_5, remT_8]
    refine y_ireturn E F rfl rfl dX3_route_26 (by omega) (by omega) (by first | (rw [show o_route T a b i = (0, failT T 1) from by unfold o_route; rw [if_pos (by omega)]]; exact ⟨rfl, rfl⟩))
  · first | refine y_ald_n E dX3_route_13 (by rfl) ?_ | refine y_aload_n E dX3_route_13 (by rfl) ?_
    refine y_iload_n E dX3_route_14 (by rfl) ?_
    refine y_callV E dX3_route_15 lk_X3_148 (m_isTower hA ?_ ?_) (by rfl) (m_o hA _ _) rfl (by decide) (by omega) (by omega) rfl (Nat.le_of_ble_eq_true rfl) ?_ (fun _ _ _ h => h.elim)
    · exact hS
    · first | omega | (simp (decide := true) only [upN_s, upN_n, upN_upN, upN_id, remT_5, remT_8] <;> omega)
    rintro _ _ ⟨rfl, rfl⟩
    try simp (decide := true) only [upN_s, upN_n, upN_upN, upN_id, remT_5, remT_8]
    refine y_ifd_ne (tgt := 27) E dX3_route_18 (by decide) (fun h18 => ?_) (fun h18 => ?_)
    · first | refine y_ald_n E dX3_route_27 (by rfl) ?_ | refine y_aload_n E dX3_route_27 (by rfl) ?_
      refine y_iload_n E dX3_route_28 (by rfl) ?_
      refine y_iload_n E dX3_route_29 (by rfl) ?_
      refine y_callV E dX3_route_30 lk_X3_228 (m_findRoute hA ?_ ?_ ?_) (by rfl) (m_o hA _ _) rfl (by decide) (by omega) (by omega) rfl (Nat.le_of_ble_eq_true rfl) ?_ (fun _ _ _ h => h.elim)
      · exact hS
      · (show 0 ≤ a ∧ a < T 5 10; omega)
      · (show 0 ≤ b ∧ b < T 5 10; omega)
      rintro _ _ ⟨rfl, rfl⟩
      try simp (decide := true) only [upN_s, upN_n, upN_upN, upN_id, remT_5, remT_8]
      have hdb : 0 ≤ b ∧ b < T 5 10 → -1 ≤ dS (T 5) b a ∧ dS (T 5) b a ≤ 7 := fun h => dS_in hn h
      have hdb := hdb (by omega)
      have e14 : 0 ≤ dS (T 5) b a → frT (upN T 0 (fun _ => 0)) a b 14 0 = dS (T 5) b a := fun h => by rw [frT_14 (T := upN T 0 (fun _ => 0)) (a := a) (b := b) h]; rfl
      have e13 : 0 ≤ dS (T 5) b a → frT (upN T 0 (fun _ => 0)) a b 13 = rowR (T 5) b a (T 13) (dS (T 5) b a + 1) := fun h => frT_13 (T := upN T 0 (fun _ => 0)) (a := a) (b := b) h
      refine y_ifd_eq (tgt := 57) E dX3_route_33 (by decide) (fun h33 => ?_) (fun h33 => ?_)
      · first | refine y_ald_n E dX3_route_57 (by rfl) ?_ | refine y_aload_n E dX3_route_57 (by rfl) ?_
        refine y_iconst E dX3_route_58 ?_
        refine y_callV E dX3_route_59 lk_X3_63 (m_fails hA) (by rfl) (m_o hA _ _) rfl (by decide) (by omega) (by omega) rfl (Nat.le_of_ble_eq_true rfl) ?_ (fun _ _ _ h => h.elim)
        rintro _ _ ⟨rfl, rfl⟩
        try simp (decide := true) only [upN_s, upN_n, upN_upN, upN_id, remT_5, remT_8]
        refine y_ireturn E F rfl rfl dX3_route_62 (by omega) (by omega) (by first | (rw [show o_route T a b i = (0, upN (frT (upN T 0 (fun _ => 0)) a b) 0 (fun _ => 2)) from by unfold o_route; rw [if_neg (by omega), if_neg (by omega)]]; exact ⟨rfl, rfl⟩) | (rw [show o_route T a b i = (rtS (T 5) b a i, frT (upN T 0 (fun _ => 0)) a b) from by unfold o_route; rw [if_neg (by omega), if_pos (by omega)]]; exact ⟨rfl, rfl⟩))
      · refine y_iload_n E dX3_route_36 (by rfl) ?_
        refine y_iconst E dX3_route_37 ?_
        first | refine y_ald_n E dX3_route_38 (by rfl) ?_ | refine y_aload_n E dX3_route_38 (by rfl) ?_
        refine y_get E dX3_route_39 fl_X3_222_X3 (m_o hA _ _) (by rfl) ?_
        try simp (decide := true) only [upN_s, upN_n, upN_upN, upN_id, remT_5, remT_8]
        rw [e14 h33]
        refine y_callS E dX3_route_42 lk_X3_77 (m_isBetween ?_ ?_ ?_) (by rfl) (by decide) (by omega) (by omega) rfl (Nat.le_of_ble_eq_true rfl) ?_ (fun _ _ _ h => h.elim)
        · first | omega | (simp (decide := true) only [upN_s, upN_n, upN_upN, upN_id, remT_5, remT_8] <;> omega)
        · first | omega | (simp (decide := true) only [upN_s, upN_n, upN_upN, upN_id, remT_5, remT_8] <;> omega)
        · first | omega | (simp (decide := true) only [upN_s, upN_n, upN_upN, upN_id, remT_5, remT_8] <;> omega)
        rintro _ _ ⟨rfl, rfl⟩
        refine y_ifd_eq (tgt := 57) E dX3_route_45 (by decide) (fun h45 => ?_) (fun h45 => ?_)
        · first | refine y_ald_n E dX3_route_57 (by rfl) ?_ | refine y_aload_n E dX3_route_57 (by rfl) ?_
          refine y_iconst E dX3_route_58 ?_
          refine y_callV E dX3_route_59 lk_X3_63 (m_fails hA) (by rfl) (m_o hA _ _) rfl (by decide) (by omega) (by omega) rfl (Nat.le_of_ble_eq_true rfl) ?_ (fun _ _ _ h => h.elim)
          rintro _ _ ⟨rfl, rfl⟩
          try simp (decide := true) only [upN_s, upN_n, upN_upN, upN_id, remT_5, remT_8]
          refine y_ireturn E F rfl rfl dX3_route_62 (by omega) (by omega) (by first | (rw [show o_route T a b i = (0, upN (frT (upN T 0 (fun _ => 0)) a b) 0 (fun _ => 2)) from by unfold o_route; rw [if_neg (by omega), if_neg (by omega)]]; exact ⟨rfl, rfl⟩) | (rw [show o_route T a b i = (rtS (T 5) b a i, frT (upN T 0 (fun _ => 0)) a b) from by unfold o_route; rw [if_neg (by omega), if_pos (by omega)]]; exact ⟨rfl, rfl⟩))
        · first | refine y_ald_n E dX3_route_48 (by rfl) ?_ | refine y_aload_n E dX3_route_48 (by rfl) ?_
          refine y_get E dX3_route_49 fl_X3_28_X3 (m_o hA _ _) (by rfl) ?_
          refine y_iload_n E dX3_route_52 (by rfl) ?_
          refine y_iald E dX3_route_53 (m_r13 hA _ _) (by omega) ?_
          try simp (decide := true) only [upN_s, upN_n, upN_upN, upN_id, remT_5, remT_8]
          rw [e13 h33]
          refine y_top (v' := .int (iI (rtS (T 5) b a i))) (by congr 2; unfold rowR; rw [if_pos (by omega)]) ?_
          refine y_goto (tgt := 62) E dX3_route_54 (by decide) ?_
          refine y_ireturn E F rfl rfl dX3_route_62 (by omega) (by omega) (by first | (rw [show o_route T a b i = (0, upN (frT (upN T 0 (fun _ => 0)) a b) 0 (fun _ => 2)) from by unfold o_route; rw [if_neg (by omega), if_neg (by omega)]]; exact ⟨rfl, rfl⟩) | (rw [show o_route T a b i = (rtS (T 5) b a i, frT (upN T 0 (fun _ => 0)) a b) from by unfold o_route; rw [if_neg (by omega), if_pos (by omega)]]; exact ⟨rfl, rfl⟩))
    · first | refine y_ald_n E dX3_route_21 (by rfl) ?_ | refine y_aload_n E dX3_route_21 (by rfl) ?_
      refine y_iconst E dX3_route_22 ?_
      refine y_callV E dX3_route_23 lk_X3_63 (m_fails hA) (by rfl) (m_o hA _ _) rfl (by decide) (by omega) (by omega) rfl (Nat.le_of_ble_eq_true rfl) ?_ (fun _ _ _ h => h.elim)
      rintro _ _ ⟨rfl, rfl⟩
      try simp (decide := true) only [upN_s, upN_n, upN_upN, upN_id, remT_5, remT_8]
      refine y_ireturn E F rfl rfl dX3_route_26 (by omega) (by omega) (by first | (rw [show o_route T a b i = (0, failT T 1) from by unfold o_route; rw [if_pos (by omega)]]; exact ⟨rfl, rfl⟩))
theorem m_signalsAgain (hA : mA A) (hS : SH (T 5)) {t o : Int} (ht : inR t) (ho : inR o) : Ct_X3_signalsAgain Γ 6 0 0 [.ref (A 0), .int (iI (t)), .int (iI (o))] (mH A T G) (fun v G' => v = some (.int (iI ((q_sigA (T 5) t o).2))) ∧ G' = mH A (upN T 0 (fun _ => (q_sigA (T 5) t o).1)) G) noX := by
  refine y_start (lv0 := [some (.ref (A 0)), some (.int (iI (t))), some (.int (iI (o))), none, none, none, none, none]) (nm := "signalsAgain") (own := RX3) (by decide +kernel) rfl rfl (by exact Nat.le_of_ble_eq_true rfl) (by rfl) ?_
  intro Z Q E F
  have hn := hS.nt
  have main : ∀ (t o : Nat), (t : Int) < T 5 10 → (o : Int) < T 5 10 → YF Γ Z Q 0 0 (fun v G' => v = some (.int (iI (q_sigA (T 5) t o).2)) ∧ G' = mH A (upN T 0 (fun _ => (q_sigA (T 5) t o).1)) G) noX → ∀ (n : Nat) (s : Nat) (l5 l6 l7 : Option Value), n ≤ 8 → s < 256 → (∀ j : Nat, j < 8 → (s.testBit j = true ↔ RL (T 5) j n t)) → (∀ m, m < n → ¬ RL (T 5) o m t) → Y Γ Z 0 0 Q (mH A (upN T 0 (fun _ => 0)) G) 34 [some (.ref (A 0)), some (.int (iI t)), some (.int (iI o)), some (.int (iI s)), some (.int (iI n)), l5, l6, l7] [] := by
    intro t o ht ho F
    refine loopDownN 8 ?_
    intro n ih s l5 l6 l7 hn8 hs hb hl
    have mid : n < 8 → ¬ RL (T 5) o n t → ∀ a : Nat, ∀ (m : Nat) (l7 : Option Value), (a : Int) ≤ T 5 10 → m < 256 → (∀ j : Nat, j < 8 → (m.testBit j = true ↔ s.testBit j = true ∨ ((j : Int) < T 5 10 ∧ ∃ c : Nat, c < a ∧ s.testBit c = true ∧ csP (T 5) c j))) → Y Γ Z 0 0 Q (mH A (upN T 0 (fun _ => 0)) G) 59 [some (.ref (A 0)), some (.int (iI t)), some (.int (iI o)), some (.int (iI s)), some (.int (iI n)), some (.int (iI m)), some (.int (iI a)), l7] [] := by
      intro hn8 hno
      refine loopDownN (T 5 10).toNat ?_
      intro a iha m l7 a1 hm hmb
      have inner : (a : Int) < T 5 10 → ∀ b : Nat, ∀ (m : Nat), (b : Int) ≤ T 5 10 → m < 256 → (b = 0 ∨ s.testBit a = true) → (∀ j : Nat, j < 8 → (m.testBit j = true ↔ s.testBit j = true ∨ ((j : Int) < T 5 10 ∧ ∃ c : Nat, c < a ∧ s.testBit c = true ∧ csP (T 5) c j) ∨ (j < b ∧ csP (T 5) a j))) → Y Γ Z 0 0 Q (mH A (upN T 0 (fun _ => 0)) G) 74 [some (.ref (A 0)), some (.int (iI t)), some (.int (iI o)), some (.int (iI s)), some (.int (iI n)), some (.int (iI m)), some (.int (iI a)), some (.int (iI b))] [] := by
        intro ha
        refine loopDownN (T 5 10).toNat ?_
        intro b ihb m b1 hm hba hmb
        have hlt : s / 2 ^ a % 2 ^ 1 < 2 := Nat.mod_lt _ (by decide)
        have htb := tb_bit s a
        refine y_iload E dX3_signalsAgain_74 (by rfl) ?_
        first | refine y_ald_n E dX3_signalsAgain_76 (by rfl) ?_ | refine y_aload_n E dX3_signalsAgain_76 (by rfl) ?_
        refine y_get E dX3_signalsAgain_77 fl_X3_13_X3 (m_o hA _ _) (by rfl) ?_
        refine y_bipush E dX3_signalsAgain_80 (by decide) ?_
        refine y_iald E dX3_signalsAgain_82 (m_r5 hA _ _) (by omega) ?_
        try simp (decide := true) only [upN_s, upN_n, upN_upN, upN_id, remT_5, remT_8]
        refine y_icmp_ge (tgt := 126) E dX3_signalsAgain_83 (by decide) (by omega) (by omega) (fun h83 => ?_) (fun h83 => ?_)
        · refine y_iinc E dX3_signalsAgain_126 (by rfl) ?_
          refine y_goto (tgt := 59) E dX3_signalsAgain_129 (by decide) ?_
          refine iha (by omega) m _ (by omega) hm (fun j j8 => ?_)
          rw [hmb j j8]
          constructor
          · rintro (q | ⟨q0, c, q1, q2, q3⟩ | ⟨q1, q2⟩)
            · exact Or.inl q
            · exact Or.inr ⟨q0, c, by omega, q2, q3⟩
            · exact Or.inr ⟨by omega, a, by omega, by rcases hba with e | e <;> first | omega | exact e, q2⟩
          · rintro (q | ⟨q0, c, q1, q2, q3⟩)
            · exact Or.inl q
            · by_cases e : c = a
              · subst e
                first
                  | exact Or.inr (Or.inr ⟨by omega, q3⟩)
                  | exact absurd (htb.mpr q2) (by omega)
              · exact Or.inr (Or.inl ⟨q0, c, by omega, q2, q3⟩)
        · refine y_iload_n E dX3_signalsAgain_86 (by rfl) ?_
          refine y_iload E dX3_signalsAgain_87 (by rfl) ?_
          refine y_ishr E dX3_signalsAgain_89 (iI_shr a (by omega) (by omega) (by omega)) ?_
          refine y_top (v' := .int (iI ((s / 2 ^ a : Nat) : Int))) (by rw [Int.natCast_ediv]) ?_
          refine y_iconst E dX3_signalsAgain_90 ?_
          refine y_iand E dX3_signalsAgain_91 (iI_and_low _ 1 (by decide) (by decide)) ?_
          refine y_iconst E dX3_signalsAgain_92 ?_
          refine y_icmp_ne (tgt := 126) E dX3_signalsAgain_93 (by decide) (by omega) (by omega) (fun h93 => ?_) (fun h93 => ?_)
          · refine y_iinc E dX3_signalsAgain_126 (by rfl) ?_
            refine y_goto (tgt := 59) E dX3_signalsAgain_129 (by decide) ?_
            refine iha (by omega) m _ (by omega) hm (fun j j8 => ?_)
            rw [hmb j j8]
            constructor
            · rintro (q | ⟨q0, c, q1, q2, q3⟩ | ⟨q1, q2⟩)
              · exact Or.inl q
              · exact Or.inr ⟨q0, c, by omega, q2, q3⟩
              · exact Or.inr ⟨by omega, a, by omega, by rcases hba with e | e <;> first | omega | exact e, q2⟩
            · rintro (q | ⟨q0, c, q1, q2, q3⟩)
              · exact Or.inl q
              · by_cases e : c = a
                · subst e
                  first
                    | exact Or.inr (Or.inr ⟨by omega, q3⟩)
                    | exact absurd (htb.mpr q2) (by omega)
                · exact Or.inr (Or.inl ⟨q0, c, by omega, q2, q3⟩)
          · refine y_iload E dX3_signalsAgain_96 (by rfl) ?_
            first | refine y_ald_n E dX3_signalsAgain_98 (by rfl) ?_ | refine y_aload_n E dX3_signalsAgain_98 (by rfl) ?_
            refine y_iload E dX3_signalsAgain_99 (by rfl) ?_
            refine y_iload E dX3_signalsAgain_101 (by rfl) ?_
            refine y_callV E dX3_signalsAgain_103 lk_X3_213 (m_canSignal hA ?_ ?_ ?_) (by rfl) (m_o hA _ _) rfl (by decide) (by omega) (by omega) rfl (Nat.le_of_ble_eq_true rfl) ?_ (fun _ _ _ h => h.elim)
            · exact hS
            · first | omega | (simp (decide := true) only [upN_s, upN_n, upN_upN, upN_id, remT_5, remT_8] <;> omega)
            · first | omega | (simp (decide := true) only [upN_s, upN_n, upN_upN, upN_id, remT_5, remT_8] <;> omega)
            rintro _ _ ⟨rfl, rfl⟩
            try simp (decide := true) only [upN_s, upN_n, upN_upN, upN_id, remT_5, remT_8]
            refine y_ifd_eq (tgt := 116) E dX3_signalsAgain_106 (by decide) (fun h106 => ?_) (fun h106 => ?_)
            · refine y_iconst E dX3_signalsAgain_116 ?_
              first | refine y_ior E dX3_signalsAgain_117 (iI_or _ (2 ^ b)) ?_ | refine y_ior E dX3_signalsAgain_117 (iI_or _ 0) ?_
              refine y_istore E dX3_signalsAgain_118 (Nat.le_of_ble_eq_true rfl) ?_
              refine y_iinc E dX3_signalsAgain_120 (by rfl) ?_
              refine y_goto (tgt := 74) E dX3_signalsAgain_123 (by decide) ?_
              first
                | refine ihb (by omega) (m ||| 2 ^ b) (by omega) (tb_or_lt hm (by omega)) (Or.inr (htb.mp (by omega))) (fun j j8 => ?_)
                  rw [tb_or, hmb j j8]
                  constructor
                  · rintro ((q | q | ⟨q1, q2⟩) | q)
                    · exact Or.inl q
                    · exact Or.inr (Or.inl q)
                    · exact Or.inr (Or.inr ⟨by omega, q2⟩)
                    · subst q
                      exact Or.inr (Or.inr ⟨by omega, h106⟩)
                  · rintro (q | q | ⟨q1, q2⟩)
                    · exact Or.inl (Or.inl q)
                    · exact Or.inl (Or.inr (Or.inl q))
                    · by_cases e : j = b
                      · exact Or.inr e
                      · exact Or.inl (Or.inr (Or.inr ⟨by omega, q2⟩))
                | refine ihb (by omega) (m ||| 0) (by omega) (by rw [Nat.or_zero]; exact hm) (Or.inr (htb.mp (by omega))) (fun j j8 => ?_)
                  rw [Nat.or_zero, hmb j j8]
                  constructor
                  · rintro (q | q | ⟨q1, q2⟩)
                    · exact Or.inl q
                    · exact Or.inr (Or.inl q)
                    · exact Or.inr (Or.inr ⟨by omega, q2⟩)
                  · rintro (q | q | ⟨q1, q2⟩)
                    · exact Or.inl q
                    · exact Or.inr (Or.inl q)
                    · by_cases e : j = b
                      · subst e
                        exact absurd q2 h106
                      · exact Or.inr (Or.inr ⟨by omega, q2⟩)
            · refine y_iconst E dX3_signalsAgain_109 ?_
              refine y_iload E dX3_signalsAgain_110 (by rfl) ?_
              refine y_ishl E dX3_signalsAgain_112 (tb_1shl b (by omega)) ?_
              refine y_goto (tgt := 117) E dX3_signalsAgain_113 (by decide) ?_
              first | refine y_ior E dX3_signalsAgain_117 (iI_or _ (2 ^ b)) ?_ | refine y_ior E dX3_signalsAgain_117 (iI_or _ 0) ?_
              refine y_istore E dX3_signalsAgain_118 (Nat.le_of_ble_eq_true rfl) ?_
              refine y_iinc E dX3_signalsAgain_120 (by rfl) ?_
              refine y_goto (tgt := 74) E dX3_signalsAgain_123 (by decide) ?_
              first
                | refine ihb (by omega) (m ||| 2 ^ b) (by omega) (tb_or_lt hm (by omega)) (Or.inr (htb.mp (by omega))) (fun j j8 => ?_)
                  rw [tb_or, hmb j j8]
                  constructor
                  · rintro ((q | q | ⟨q1, q2⟩) | q)
                    · exact Or.inl q
                    · exact Or.inr (Or.inl q)
                    · exact Or.inr (Or.inr ⟨by omega, q2⟩)
                    · subst q
                      exact Or.inr (Or.inr ⟨by omega, h106⟩)
                  · rintro (q | q | ⟨q1, q2⟩)
                    · exact Or.inl (Or.inl q)
                    · exact Or.inl (Or.inr (Or.inl q))
                    · by_cases e : j = b
                      · exact Or.inr e
                      · exact Or.inl (Or.inr (Or.inr ⟨by omega, q2⟩))
                | refine ihb (by omega) (m ||| 0) (by omega) (by rw [Nat.or_zero]; exact hm) (Or.inr (htb.mp (by omega))) (fun j j8 => ?_)
                  rw [Nat.or_zero, hmb j j8]
                  constructor
                  · rintro (q | q | ⟨q1, q2⟩)
                    · exact Or.inl q
                    · exact Or.inr (Or.inl q)
                    · exact Or.inr (Or.inr ⟨by omega, q2⟩)
                  · rintro (q | q | ⟨q1, q2⟩)
                    · exact Or.inl q
                    · exact Or.inr (Or.inl q)
                    · by_cases e : j = b
                      · subst e
                        exact absurd q2 h106
                      · exact Or.inr (Or.inr ⟨by omega, q2⟩)
      refine y_iload E dX3_signalsAgain_59 (by rfl) ?_
      first | refine y_ald_n E dX3_signalsAgain_61 (by rfl) ?_ | refine y_aload_n E dX3_signalsAgain_61 (by rfl) ?_
      refine y_get E dX3_signalsAgain_62 fl_X3_13_X3 (m_o hA _ _) (by rfl) ?_
      refine y_bipush E dX3_signalsAgain_65 (by decide) ?_
      refine y_iald E dX3_signalsAgain_67 (m_r5 hA _ _) (by omega) ?_
      try simp (decide := true) only [upN_s, upN_n, upN_upN, upN_id, remT_5, remT_8]
      refine y_icmp_ge (tgt := 132) E dX3_signalsAgain_68 (by decide) (by omega) (by omega) (fun h68 => ?_) (fun h68 => ?_)
      · refine y_iload E dX3_signalsAgain_132 (by rfl) ?_
        refine y_istore_n (j := 3) E dX3_signalsAgain_134 rfl (Nat.le_of_ble_eq_true rfl) ?_
        refine y_iinc E dX3_signalsAgain_135 (by rfl) ?_
        refine y_goto (tgt := 34) E dX3_signalsAgain_138 (by decide) ?_
        refine ih hn8 m _ _ _ (by omega) hm (fun j j8 => ?_) (fun q q1 q2 => ?_)
        · rw [hmb j j8, RL_fw, hb j j8]
          constructor
          · rintro (q | ⟨q0, c, q1, q2, q3⟩)
            · exact Or.inl q
            · exact Or.inr ⟨⟨by omega, q0⟩, c, ⟨by omega, by omega⟩, (hb c (by omega)).mp q2, q3⟩
          · rintro (q | ⟨q0, c, q1, q2, q3⟩)
            · exact Or.inl q
            · refine Or.inr ⟨q0.2, c.toNat, by omega, ?_, ?_⟩
              · rw [hb c.toNat (by omega), show ((c.toNat : Nat) : Int) = c by omega]
                exact q2
              · rw [show ((c.toNat : Nat) : Int) = c by omega]
                exact q3
        · by_cases e : q = n
          · subst e
            exact hno q2
          · exact hl q (by omega) q2
      · refine y_iconst E dX3_signalsAgain_71 ?_
        refine y_istore E dX3_signalsAgain_72 (Nat.le_of_ble_eq_true rfl) ?_
        exact inner (by omega) 0 m (by omega) hm (Or.inl rfl) (fun j j8 => by rw [hmb j j8]; constructor; (rintro (q | q); exact Or.inl q; exact Or.inr (Or.inl q)); (rintro (q | q | q); exact Or.inl q; exact Or.inr q; exact absurd q.1 (by omega)))
    have hlt : s / 2 ^ o % 2 ^ 1 < 2 := Nat.mod_lt _ (by decide)
    have htb := tb_bit s o
    have hbo := hb o (by omega)
    have hd : RL (T 5) o n t → dS (T 5) o t = n := by
      rintro ⟨k, k1, k2⟩
      have : k = n := by
        by_cases e : k < n
        · exact absurd ⟨k, Nat.le_refl _, k2⟩ (hl k e)
        · omega
      subst this
      exact dS_eq (Or.inr ⟨by omega, by rw [Int.toNat_natCast]; exact k2, fun m m1 q => hl m (by omega) ⟨m, Nat.le_refl _, q⟩⟩)
    have hd0 := dS_in (t := (t : Int)) hn (show 0 ≤ (o : Int) ∧ (o : Int) < T 5 10 by omega)
    have hd8 : n = 8 → dS (T 5) o t < 0 := by
      intro e
      by_cases e2 : dS (T 5) o t < 0
      · exact e2
      · exact absurd ⟨_, Nat.le_refl _, dS_p (by omega)⟩ (hl (dS (T 5) o t).toNat (by omega))
    refine y_iload E dX3_signalsAgain_34 (by rfl) ?_
    refine y_bipush E dX3_signalsAgain_36 (by decide) ?_
    refine y_icmp_ge (tgt := 141) E dX3_signalsAgain_38 (by decide) (by omega) (by omega) (fun h38 => ?_) (fun h38 => ?_)
    · first | refine y_ald_n E dX3_signalsAgain_141 (by rfl) ?_ | refine y_aload_n E dX3_signalsAgain_141 (by rfl) ?_
      refine y_iconst E dX3_signalsAgain_142 ?_
      refine y_callV E dX3_signalsAgain_143 lk_X3_63 (m_fails hA) (by rfl) (m_o hA _ _) rfl (by decide) (by omega) (by omega) rfl (Nat.le_of_ble_eq_true rfl) ?_ (fun _ _ _ h => h.elim)
      rintro _ _ ⟨rfl, rfl⟩
      try simp (decide := true) only [upN_s, upN_n, upN_upN, upN_id, remT_5, remT_8]
      refine y_ireturn E F rfl rfl dX3_signalsAgain_146 (by omega) (by omega) (by rw [show q_sigA (T 5) t o = (2, 0) from by unfold q_sigA; rw [if_neg (by omega), if_pos (hd8 (by omega))]]; exact ⟨rfl, rfl⟩)
    · refine y_iload_n E dX3_signalsAgain_41 (by rfl) ?_
      refine y_iload_n E dX3_signalsAgain_42 (by rfl) ?_
      refine y_ishr E dX3_signalsAgain_43 (iI_shr o (by omega) (by omega) (by omega)) ?_
      refine y_top (v' := .int (iI ((s / 2 ^ o : Nat) : Int))) (by rw [Int.natCast_ediv]) ?_
      refine y_iconst E dX3_signalsAgain_44 ?_
      refine y_iand E dX3_signalsAgain_45 (iI_and_low _ 1 (by decide) (by decide)) ?_
      refine y_iconst E dX3_signalsAgain_46 ?_
      refine y_icmp_ne (tgt := 53) E dX3_signalsAgain_47 (by decide) (by omega) (by omega) (fun h47 => ?_) (fun h47 => ?_)
      · refine y_iload_n E dX3_signalsAgain_53 (by rfl) ?_
        refine y_istore E dX3_signalsAgain_54 (Nat.le_of_ble_eq_true rfl) ?_
        refine y_iconst E dX3_signalsAgain_56 ?_
        refine y_istore E dX3_signalsAgain_57 (Nat.le_of_ble_eq_true rfl) ?_
        exact mid (by omega) (fun q => by have := htb.mpr (hbo.mpr q); omega) 0 s _ (by omega) hs (fun j j8 => ⟨Or.inl, fun q => by rcases q with q | ⟨_, c, c1, _⟩; exact q; omega⟩)
      · refine y_iload E dX3_signalsAgain_50 (by rfl) ?_
        refine y_ireturn E F rfl rfl dX3_signalsAgain_52 (by omega) (by omega) (by rw [show q_sigA (T 5) t o = (0, (n : Int)) from by unfold q_sigA; rw [if_neg (by omega), if_neg (by have := hd (hbo.mp (htb.mp (by omega))); omega), hd (hbo.mp (htb.mp (by omega)))]]; exact ⟨rfl, rfl⟩)
  first | refine y_ald_n E dX3_signalsAgain_0 (by rfl) ?_ | refine y_aload_n E dX3_signalsAgain_0 (by rfl) ?_
  refine y_iconst E dX3_signalsAgain_1 ?_
  refine y_put E dX3_signalsAgain_2 fl_X3_51_X3 fw_X3_0 rfl (by rfl) (m_o hA _ _) (Nat.le_of_ble_eq_true rfl) ?_
  refine y_heap (m_p0 hA) ?_
  first | refine y_ald_n E dX3_signalsAgain_5 (by rfl) ?_ | refine y_aload_n E dX3_signalsAgain_5 (by rfl) ?_
  refine y_iload_n E dX3_signalsAgain_6 (by rfl) ?_
  refine y_callV E dX3_signalsAgain_7 lk_X3_148 (m_isTower hA ?_ ?_) (by rfl) (m_o hA _ _) rfl (by decide) (by omega) (by omega) rfl (Nat.le_of_ble_eq_true rfl) ?_ (fun _ _ _ h => h.elim)
  · exact hS
  · first | omega | (simp (decide := true) only [upN_s, upN_n, upN_upN, upN_id, remT_5, remT_8] <;> omega)
  rintro _ _ ⟨rfl, rfl⟩
  try simp (decide := true) only [upN_s, upN_n, upN_upN, upN_id, remT_5, remT_8]
  refine y_ifd_eq (tgt := 21) E dX3_signalsAgain_10 (by decide) (fun h10 => ?_) (fun h10 => ?_)
  · first | refine y_ald_n E dX3_signalsAgain_21 (by rfl) ?_ | refine y_aload_n E dX3_signalsAgain_21 (by rfl) ?_
    refine y_iconst E dX3_signalsAgain_22 ?_
    refine y_callV E dX3_signalsAgain_23 lk_X3_63 (m_fails hA) (by rfl) (m_o hA _ _) rfl (by decide) (by omega) (by omega) rfl (Nat.le_of_ble_eq_true rfl) ?_ (fun _ _ _ h => h.elim)
    rintro _ _ ⟨rfl, rfl⟩
    try simp (decide := true) only [upN_s, upN_n, upN_upN, upN_id, remT_5, remT_8]
    refine y_ireturn E F rfl rfl dX3_signalsAgain_26 (by omega) (by omega) (by rw [show q_sigA (T 5) t o = (1, 0) from by unfold q_sigA; rw [if_pos (by omega)]]; exact ⟨rfl, rfl⟩)
  · first | refine y_ald_n E dX3_signalsAgain_13 (by rfl) ?_ | refine y_aload_n E dX3_signalsAgain_13 (by rfl) ?_
    refine y_iload_n E dX3_signalsAgain_14 (by rfl) ?_
    refine y_callV E dX3_signalsAgain_15 lk_X3_148 (m_isTower hA ?_ ?_) (by rfl) (m_o hA _ _) rfl (by decide) (by omega) (by omega) rfl (Nat.le_of_ble_eq_true rfl) ?_ (fun _ _ _ h => h.elim)
    · exact hS
    · first | omega | (simp (decide := true) only [upN_s, upN_n, upN_upN, upN_id, remT_5, remT_8] <;> omega)
    rintro _ _ ⟨rfl, rfl⟩
    try simp (decide := true) only [upN_s, upN_n, upN_upN, upN_id, remT_5, remT_8]
    refine y_ifd_ne (tgt := 27) E dX3_signalsAgain_18 (by decide) (fun h18 => ?_) (fun h18 => ?_)
    · obtain ⟨t, rfl⟩ : ∃ k : Nat, t = k := ⟨t.toNat, by omega⟩
      obtain ⟨o, rfl⟩ : ∃ k : Nat, o = k := ⟨o.toNat, by omega⟩
      refine y_iconst E dX3_signalsAgain_27 ?_
      refine y_iload_n E dX3_signalsAgain_28 (by rfl) ?_
      refine y_ishl E dX3_signalsAgain_29 (tb_1shl t (by omega)) ?_
      refine y_istore_n (j := 3) E dX3_signalsAgain_30 rfl (Nat.le_of_ble_eq_true rfl) ?_
      refine y_iconst E dX3_signalsAgain_31 ?_
      refine y_istore E dX3_signalsAgain_32 (Nat.le_of_ble_eq_true rfl) ?_
      refine main t o (by omega) (by omega) F 0 (2 ^ t) _ _ _ (by omega) (Nat.pow_lt_pow_right (n := 8) (by decide) (by omega)) (fun j j8 => ?_) (fun m h => by omega)
      rw [Nat.testBit_two_pow, decide_eq_true_iff]
      constructor
      · intro e
        subst e
        exact ⟨0, by omega, rfl⟩
      · rintro ⟨k, k1, k2⟩
        have : k = 0 := by omega
        subst this
        have : (t : Int) = j := k2
        omega
    · first | refine y_ald_n E dX3_signalsAgain_21 (by rfl) ?_ | refine y_aload_n E dX3_signalsAgain_21 (by rfl) ?_
      refine y_iconst E dX3_signalsAgain_22 ?_
      refine y_callV E dX3_signalsAgain_23 lk_X3_63 (m_fails hA) (by rfl) (m_o hA _ _) rfl (by decide) (by omega) (by omega) rfl (Nat.le_of_ble_eq_true rfl) ?_ (fun _ _ _ h => h.elim)
      rintro _ _ ⟨rfl, rfl⟩
      try simp (decide := true) only [upN_s, upN_n, upN_upN, upN_id, remT_5, remT_8]
      refine y_ireturn E F rfl rfl dX3_signalsAgain_26 (by omega) (by omega) (by rw [show q_sigA (T 5) t o = (1, 0) from by unfold q_sigA; rw [if_pos (by omega)]]; exact ⟨rfl, rfl⟩)
end Tw11
