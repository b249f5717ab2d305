/-! ===== the twin: commands are read ===== -/
section Ps2
theorem takT_t {T : Nat → Int → Int} {c : Int} (h : (takT T c).1 = true) : (takT T c).2 = advT T ∧ chT T (T 22 0) = c := by
  unfold takT at h ⊢
  split at h
  · rename_i e
    rw [if_pos e]
    exact ⟨rfl, e⟩
  · cases h
theorem takT_f {T : Nat → Int → Int} {c : Int} (h : (takT T c).1 = false) : (takT T c).2 = T ∧ chT T (T 22 0) ≠ c := by
  unfold takT at h ⊢
  split at h
  · cases h
  · rename_i e
    rw [if_neg e]
    exact ⟨rfl, e⟩
/-- goes on by at least n, keeps the input and the count of commands -/
def GO (T V : Nat → Int → Int) (n : Int) : Prop := T 22 0 + n ≤ V 22 0 ∧ V 23 0 = T 23 0 ∧ V 17 = T 17 ∧ V 15 = T 15
theorem GO_t {T U V : Nat → Int → Int} {n m : Int} (h : GO T U n) (g : GO U V m) : GO T V (n + m) := ⟨by have := h.1; have := g.1; omega, g.2.1.trans h.2.1, g.2.2.1.trans h.2.2.1, g.2.2.2.trans h.2.2.2⟩
theorem GO_le {T V : Nat → Int → Int} {n m : Int} (h : GO T V n) (hm : m ≤ n) : GO T V m := ⟨by have := h.1; omega, h.2⟩
theorem GO_adv (T : Nat → Int → Int) : GO T (advT T) 1 := ⟨Int.le_refl _, rfl, rfl, rfl⟩
theorem GO_r (T : Nat → Int → Int) : GO T T 0 := ⟨by omega, rfl, rfl, rfl⟩
theorem GO_tak (T : Nat → Int → Int) (c : Int) : GO T (takT T c).2 0 ∧ ((takT T c).1 = true → GO T (takT T c).2 1) := by
  unfold takT
  split
  · exact ⟨GO_le (GO_adv T) (by omega), fun _ => GO_adv T⟩
  · exact ⟨GO_r T, fun h => by cases h⟩
theorem GO_dig (T : Nat → Int → Int) (c : Int) : GO T (digT T c).2 0 ∧ ((digT T c).1 = true → GO T (digT T c).2 1) := by
  unfold digT
  split
  · have h : GO T (advT (upN T 20 (upI (T 20) (T 23 0) (chT T (T 22 0) - 48)))) 1 := ⟨Int.le_refl _, rfl, rfl, rfl⟩
    exact ⟨GO_le h (by omega), fun _ => h⟩
  · exact ⟨GO_r T, fun h => by cases h⟩
theorem GO_21 (T : Nat → Int → Int) (f : Int → Int) : GO T (upN T 21 f) 0 := ⟨by show T 22 0 + 0 ≤ T 22 0; omega, rfl, rfl, rfl⟩
theorem GO_20 (T : Nat → Int → Int) (f : Int → Int) : GO T (upN T 20 f) 0 := ⟨by show T 22 0 + 0 ≤ T 22 0; omega, rfl, rfl, rfl⟩
theorem GO_19 (T : Nat → Int → Int) (f : Int → Int) : GO T (upN T 19 f) 0 := ⟨by show T 22 0 + 0 ≤ T 22 0; omega, rfl, rfl, rfl⟩
theorem bf {b : Bool} (h : ¬ b = false) : b = true := by cases b <;> simp_all
theorem GO_fog (T : Nat → Int → Int) : GO T (fogT T).2 0 ∧ ((fogT T).1 = true → GO T (fogT T).2 1) := by
  have h1 := GO_dig T 6
  have h2 := GO_tak (digT T 6).2 61
  unfold fogT
  split
  · exact ⟨h1.1, fun h => by cases h⟩
  · rename_i e
    have g := GO_t (h1.2 (bf e)) h2.1
    split
    · exact ⟨GO_le g (by omega), fun h => by cases h⟩
    · split
      · exact ⟨GO_le (GO_t (GO_t g (GO_21 _ _)) (GO_adv _)) (by omega), fun _ => GO_le (GO_t (GO_t g (GO_21 _ _)) (GO_adv _)) (by omega)⟩
      · exact ⟨GO_le g (by omega), fun h => by cases h⟩
theorem GO_sgn : ∀ (f : Nat) (T : Nat → Int → Int) (x : Int), GO T (sgnF f T x).2 0
  | 0, T, _ => GO_r T
  | f + 1, T, x => by
    simp only [sgnF]
    split
    · exact GO_le (GO_t (GO_adv T) (GO_sgn f _ _)) (by omega)
    · exact GO_r T
theorem GO_pat (T : Nat → Int → Int) : GO T (patT T).2 0 ∧ ((patT T).1 = true → GO T (patT T).2 1) := by
  have h1 := GO_dig T 7
  have h2 := GO_tak (digT T 7).2 58
  unfold patT
  split
  · exact ⟨h1.1, fun h => by cases h⟩
  · rename_i e
    have g := GO_t (h1.2 (bf e)) h2.1
    split
    · exact ⟨GO_le g (by omega), fun h => by cases h⟩
    · have g2 := GO_t (GO_t g (GO_sgn 9 _ 1)) (GO_21 _ (upI ((sgnT (takT (digT T 7).2 58).2).2 21) ((sgnT (takT (digT T 7).2 58).2).2 23 0) (sgnT (takT (digT T 7).2 58).2).1))
      exact ⟨GO_le g2 (by omega), fun _ => GO_le g2 (by omega)⟩
theorem GO_num (T : Nat → Int → Int) : GO T (numT T).2 0 ∧ ((numT T).1 = true → GO T (numT T).2 1) := by
  have h1 := GO_dig T 9
  unfold numT
  split
  · exact ⟨h1.1, fun h => by cases h⟩
  · rename_i e
    have g := h1.2 (bf e)
    split
    · exact ⟨GO_le (GO_t (GO_t g (GO_20 _ _)) (GO_adv _)) (by omega), fun _ => GO_le (GO_t (GO_t g (GO_20 _ _)) (GO_adv _)) (by omega)⟩
    · exact ⟨GO_le g (by omega), fun _ => g⟩
theorem GO_cmd (T : Nat → Int → Int) : GO T (cmdT T).2 0 ∧ ((cmdT T).1 = true → GO T (cmdT T).2 2) := by
  have h0 : GO T (advT (cm0 T)) 1 := GO_le (GO_t (GO_19 T _) (GO_adv _)) (by omega)
  unfold cmdT
  split
  · have h1 := GO_dig (advT (cm0 T)) 7
    exact ⟨GO_le (GO_t h0 h1.1) (by omega), fun q => GO_le (GO_t h0 (h1.2 q)) (by omega)⟩
  · split
    · have h1 := GO_fog (advT (cm0 T))
      exact ⟨GO_le (GO_t h0 h1.1) (by omega), fun q => GO_le (GO_t h0 (h1.2 q)) (by omega)⟩
    · split
      · have h1 := GO_pat (advT (cm0 T))
        exact ⟨GO_le (GO_t h0 h1.1) (by omega), fun q => GO_le (GO_t h0 (h1.2 q)) (by omega)⟩
      · split
        · have h1 := GO_num (advT (cm0 T))
          exact ⟨GO_le (GO_t h0 h1.1) (by omega), fun q => GO_le (GO_t h0 (h1.2 q)) (by omega)⟩
        · exact ⟨GO_19 T _, fun h => by cases h⟩
/-- a command more -/
def stpT (T : Nat → Int → Int) : Bool × (Nat → Int → Int) := ((cmdT T).1, upN (cmdT T).2 23 (fun _ => (cmdT T).2 23 0 + (if (cmdT T).1 = true then 1 else 0)))
def allF : Nat → Bool × (Nat → Int → Int) → Bool × (Nat → Int → Int)
  | 0, r => r
  | f + 1, r => if r.1 = true ∧ (takT r.2 59).1 = true then allF f (stpT (takT r.2 59).2) else r
/-- behind n commands, at least 3 n - 1 signs are read -/
def PK (T : Nat → Int → Int) : Prop := 3 * T 23 0 ≤ T 22 0 + 1
theorem stpT_ok {T : Nat → Int → Int} (h : PI T) (hk : 3 * T 23 0 ≤ T 22 0) : PI (stpT T).2 ∧ PK (stpT T).2 ∧ T 22 0 ≤ (stpT T).2 22 0 ∧ (stpT T).2 17 = T 17 ∧ (stpT T).2 15 = T 15 := by
  have h1 := PI_cmd h
  obtain ⟨g0, g1⟩ := GO_cmd T
  obtain ⟨a, b, c, d, e, f, g⟩ := h1
  have hc : (stpT T).2 23 0 = T 23 0 + (if (cmdT T).1 = true then 1 else 0) := by
    show (cmdT T).2 23 0 + _ = _
    rw [g0.2.1]
  have ha : (stpT T).2 22 0 = (cmdT T).2 22 0 := rfl
  have hp : 3 * (stpT T).2 23 0 ≤ (stpT T).2 22 0 + 1 := by
    rw [hc, ha]
    have q0 := g0.1
    by_cases e : (cmdT T).1 = true
    · have q1 := (g1 e).1
      rw [if_pos e]
      omega
    · rw [if_neg e]
      omega
  have b' : (cmdT T).2 22 0 ≤ 60 := by omega
  refine ⟨⟨a, b, ?_, d, e, f, g⟩, hp, by rw [ha]; have := g0.1; omega, g0.2.2.1, g0.2.2.2⟩
  have hh := h.2.2.1
  rw [hc] at hp ⊢
  rw [ha] at hp
  split at hp <;> split <;> omega
noncomputable def alT (T : Nat → Int → Int) : Bool × (Nat → Int → Int) := opq 18 (allF 61) (stpT (upN (upN T 22 (fun _ => 0)) 23 (fun _ => 0)))
noncomputable def rdA (T : Nat → Int → Int) : Bool × (Nat → Int → Int) := if (alT T).1 = true ∧ (alT T).2 22 0 = T 17 0 then (true, upN (alT T).2 17 (fun _ => 0)) else (false, upN (upN (alT T).2 17 (fun _ => 0)) 24 (fun _ => (alT T).2 22 0))
end Ps2
section Tw14
variable {Γ : yG} {A : Nat → Nat} {T : Nat → Int → Int} {G : yH}
set_option maxHeartbeats 4000000
theorem m_readsFog (hA : mA A) (hP : PI T) : Ct_X3_readsFog Γ 3 0 0 [.ref (A 0)] (mH A T G) (fun v G' => v = some (.int (iI (b2i ((fogT T).1)))) ∧ G' = mH A ((fogT T).2) G) noX := by
  refine y_start (lv0 := [some (.ref (A 0))]) (nm := "readsFog") (own := RX3) (by decide +kernel) rfl rfl (by exact Nat.le_of_ble_eq_true rfl) (by rfl) ?_
  intro Z Q E F
  have h1 := PI_dig hP (x := 6) (by omega)
  have h2 := PI_tak h1 (c := 61) (by omega)
  have h2a := h2.1
  have h2b := h2.2.1
  have h2c := h2.2.2.1
  have hch := chT_in h2 h2b.1
  first | refine y_ald_n E dX3_readsFog_0 (by rfl) ?_ | refine y_aload_n E dX3_readsFog_0 (by rfl) ?_
  refine y_bipush E dX3_readsFog_1 (by decide) ?_
  refine y_callV E dX3_readsFog_3 lk_X3_256 (m_readsDigit hA ?_ ?_) (by rfl) (m_o hA _ _) rfl (by decide) (by omega) (by omega) rfl (Nat.le_of_ble_eq_true rfl) ?_ (fun _ _ _ h => h.elim)
  · exact hP
  · omega
  rintro _ _ ⟨rfl, rfl⟩
  refine y_ifb_eq (tgt := 36) E dX3_readsFog_6 (by decide) (fun h6 => ?_) (fun h6 => ?_)
  · refine y_iconst E dX3_readsFog_36 ?_
    refine y_ireturn E F rfl rfl dX3_readsFog_37 (by omega) (by omega) (by first | (rw [show fogT T = (false, (digT T 6).2) from by unfold fogT; rw [if_pos h6]]; exact ⟨rfl, rfl⟩) | (rw [show fogT T = (false, (takT (digT T 6).2 61).2) from by unfold fogT; rw [if_neg (by rw [h6]; decide), if_pos h15]]; exact ⟨rfl, rfl⟩) | (rw [show fogT T = (false, (takT (digT T 6).2 61).2) from by unfold fogT; rw [if_neg (by rw [h6]; decide), if_neg (by rw [h15]; decide), if_neg (by omega)]]; exact ⟨rfl, rfl⟩))
  · first | refine y_ald_n E dX3_readsFog_9 (by rfl) ?_ | refine y_aload_n E dX3_readsFog_9 (by rfl) ?_
    refine y_bipush E dX3_readsFog_10 (by decide) ?_
    refine y_callV E dX3_readsFog_12 lk_X3_259 (m_takes hA ?_ ?_) (by rfl) (m_o hA _ _) rfl (by decide) (by omega) (by omega) rfl (Nat.le_of_ble_eq_true rfl) ?_ (fun _ _ _ h => h.elim)
    · exact h1
    · omega
    rintro _ _ ⟨rfl, rfl⟩
    refine y_ifb_eq (tgt := 36) E dX3_readsFog_15 (by decide) (fun h15 => ?_) (fun h15 => ?_)
    · refine y_iconst E dX3_readsFog_36 ?_
      refine y_ireturn E F rfl rfl dX3_readsFog_37 (by omega) (by omega) (by first | (rw [show fogT T = (false, (digT T 6).2) from by unfold fogT; rw [if_pos h6]]; exact ⟨rfl, rfl⟩) | (rw [show fogT T = (false, (takT (digT T 6).2 61).2) from by unfold fogT; rw [if_neg (by rw [h6]; decide), if_pos h15]]; exact ⟨rfl, rfl⟩) | (rw [show fogT T = (false, (takT (digT T 6).2 61).2) from by unfold fogT; rw [if_neg (by rw [h6]; decide), if_neg (by rw [h15]; decide), if_neg (by omega)]]; exact ⟨rfl, rfl⟩))
    · first | refine y_ald_n E dX3_readsFog_18 (by rfl) ?_ | refine y_aload_n E dX3_readsFog_18 (by rfl) ?_
      first | refine y_ald_n E dX3_readsFog_19 (by rfl) ?_ | refine y_aload_n E dX3_readsFog_19 (by rfl) ?_
      refine y_get E dX3_readsFog_20 fl_X3_247_X3 (m_o hA _ _) (by rfl) ?_
      refine y_callV E dX3_readsFog_23 lk_X3_250 (m_signAt hA ?_ ?_) (by rfl) (m_o hA _ _) rfl (by decide) (by omega) (by omega) rfl (Nat.le_of_ble_eq_true rfl) ?_ (fun _ _ _ h => h.elim)
      · exact h2
      · omega
      rintro _ _ ⟨rfl, rfl⟩
      refine y_bipush E dX3_readsFog_26 (by decide) ?_
      refine y_bipush E dX3_readsFog_28 (by decide) ?_
      refine y_callS E dX3_readsFog_30 lk_X3_77 (m_isBetween ?_ ?_ ?_) (by rfl) (by decide) (by omega) (by omega) rfl (Nat.le_of_ble_eq_true rfl) ?_ (fun _ _ _ h => h.elim)
      · first | omega | (simp (decide := true) only [upN_s, upN_n, upN_upN, upN_id, remT_5, remT_8] <;> omega)
      · first | omega | (simp (decide := true) only [upN_s, upN_n, upN_upN, upN_id, remT_5, remT_8] <;> omega)
      · first | omega | (simp (decide := true) only [upN_s, upN_n, upN_upN, upN_id, remT_5, remT_8] <;> omega)
      rintro _ _ ⟨rfl, rfl⟩
      refine y_ifd_ne (tgt := 38) E dX3_readsFog_33 (by decide) (fun h33 => ?_) (fun h33 => ?_)
      · first | refine y_ald_n E dX3_readsFog_38 (by rfl) ?_ | refine y_aload_n E dX3_readsFog_38 (by rfl) ?_
        refine y_get E dX3_readsFog_39 fl_X3_44_X3 (m_o hA _ _) (by rfl) ?_
        first | refine y_ald_n E dX3_readsFog_42 (by rfl) ?_ | refine y_aload_n E dX3_readsFog_42 (by rfl) ?_
        refine y_get E dX3_readsFog_43 fl_X3_253_X3 (m_o hA _ _) (by rfl) ?_
        first | refine y_ald_n E dX3_readsFog_46 (by rfl) ?_ | refine y_aload_n E dX3_readsFog_46 (by rfl) ?_
        first | refine y_ald_n E dX3_readsFog_47 (by rfl) ?_ | refine y_aload_n E dX3_readsFog_47 (by rfl) ?_
        refine y_get E dX3_readsFog_48 fl_X3_247_X3 (m_o hA _ _) (by rfl) ?_
        refine y_callV E dX3_readsFog_51 lk_X3_250 (m_signAt hA ?_ ?_) (by rfl) (m_o hA _ _) rfl (by decide) (by omega) (by omega) rfl (Nat.le_of_ble_eq_true rfl) ?_ (fun _ _ _ h => h.elim)
        · exact h2
        · omega
        rintro _ _ ⟨rfl, rfl⟩
        refine y_bipush E dX3_readsFog_54 (by decide) ?_
        refine y_isub E dX3_readsFog_56 ?_
        refine y_iast E dX3_readsFog_57 (m_r21 hA _ _) (by omega) ?_
        refine y_heap (m_w21 hA) ?_
        try simp (decide := true) only [upN_s, upN_n, upN_upN, upN_id, remT_5, remT_8]
        first | refine y_ald_n E dX3_readsFog_58 (by rfl) ?_ | refine y_aload_n E dX3_readsFog_58 (by rfl) ?_
        refine y_dup E dX3_readsFog_59 rfl ?_
        refine y_get E dX3_readsFog_60 fl_X3_247_X3 (m_o hA _ _) (by rfl) ?_
        try simp (decide := true) only [upN_s, upN_n, upN_upN, upN_id, remT_5, remT_8]
        refine y_iconst E dX3_readsFog_63 ?_
        refine y_iadd E dX3_readsFog_64 ?_
        refine y_put E dX3_readsFog_65 fl_X3_247_X3 fw_X3_22 rfl (by rfl) (m_o hA _ _) (Nat.le_of_ble_eq_true rfl) ?_
        refine y_heap (m_p22 hA) ?_
        refine y_iconst E dX3_readsFog_68 ?_
        refine y_ireturn E F rfl rfl dX3_readsFog_69 (by omega) (by omega) (by first | (rw [show fogT T = (true, advT (upN (takT (digT T 6).2 61).2 21 (upI ((takT (digT T 6).2 61).2 21) ((takT (digT T 6).2 61).2 23 0) (chT (takT (digT T 6).2 61).2 ((takT (digT T 6).2 61).2 22 0) - 48)))) from by unfold fogT; rw [if_neg (by rw [h6]; decide), if_neg (by rw [h15]; decide), if_pos (by omega)]]; exact ⟨rfl, rfl⟩))
      · refine y_iconst E dX3_readsFog_36 ?_
        refine y_ireturn E F rfl rfl dX3_readsFog_37 (by omega) (by omega) (by first | (rw [show fogT T = (false, (digT T 6).2) from by unfold fogT; rw [if_pos h6]]; exact ⟨rfl, rfl⟩) | (rw [show fogT T = (false, (takT (digT T 6).2 61).2) from by unfold fogT; rw [if_neg (by rw [h6]; decide), if_pos h15]]; exact ⟨rfl, rfl⟩) | (rw [show fogT T = (false, (takT (digT T 6).2 61).2) from by unfold fogT; rw [if_neg (by rw [h6]; decide), if_neg (by rw [h15]; decide), if_neg (by omega)]]; exact ⟨rfl, rfl⟩))
theorem m_readsPattern (hA : mA A) (hP : PI T) : Ct_X3_readsPattern Γ 3 0 0 [.ref (A 0)] (mH A T G) (fun v G' => v = some (.int (iI (b2i ((patT T).1)))) ∧ G' = mH A ((patT T).2) G) noX := by
  refine y_start (lv0 := [some (.ref (A 0)), none]) (nm := "readsPattern") (own := RX3) (by decide +kernel) rfl rfl (by exact Nat.le_of_ble_eq_true rfl) (by rfl) ?_
  intro Z Q E F
  have h1 := PI_dig hP (x := 7) (by omega)
  have h2 := PI_tak h1 (c := 58) (by omega)
  have loop : (digT T 7).1 = true → (takT (digT T 7).2 58).1 = true → ∀ (f : Nat) (T1 : Nat → Int → Int) (x : Int), PI T1 → 1 ≤ x ∧ x ≤ 511 → 512 ≤ x * ((2 ^ f : Nat) : Int) → sgnF f T1 x = sgnT (takT (digT T 7).2 58).2 → Y Γ Z 0 0 Q (mH A T1 G) 22 [some (.ref (A 0)), some (.int (iI x))] [] := by
    intro e1 e2 f
    induction f with
    | zero =>
      intro T1 x hP1 hx hp hfin
      exfalso
      simp only [Nat.pow_zero] at hp
      omega
    | succ f ih =>
      intro T1 x hP1 hx hp hfin
      simp only [sgnF] at hfin
      have h1a := hP1.1
      have h1b := hP1.2.1
      have h1c := hP1.2.2.1
      have hch := chT_in hP1 h1b.1
      have hP2 := fun q : 0 ≤ chT T1 (T1 22 0) => PI_adv hP1 (chT_lt q)
      have hpw : ∀ b : Int, 0 ≤ b → 512 ≤ (2 * x + b) * ((2 ^ f : Nat) : Int) := by
        intro b hb
        have q := Int.mul_le_mul_of_nonneg_right (show 2 * x ≤ 2 * x + b by omega) (Int.natCast_nonneg (2 ^ f))
        have e : x * ((2 ^ (f + 1) : Nat) : Int) = 2 * x * ((2 ^ f : Nat) : Int) := by
          rw [Nat.pow_succ, Int.natCast_mul, Int.mul_comm 2 x, Int.mul_assoc x 2, Int.mul_comm (((2 ^ f : Nat)) : Int)]
          rfl
        omega
      refine y_iload_n E dX3_readsPattern_22 (by rfl) ?_
      refine y_sipush E dX3_readsPattern_23 (by decide) ?_
      refine y_icmp_ge (tgt := 91) E dX3_readsPattern_26 (by decide) (by omega) (by omega) (fun h26 => ?_) (fun h26 => ?_)
      · first | refine y_ald_n E dX3_readsPattern_91 (by rfl) ?_ | refine y_aload_n E dX3_readsPattern_91 (by rfl) ?_
        rw [if_neg (by omega)] at hfin
        refine y_get E dX3_readsPattern_92 fl_X3_44_X3 (m_o hA _ _) (by rfl) ?_
        first | refine y_ald_n E dX3_readsPattern_95 (by rfl) ?_ | refine y_aload_n E dX3_readsPattern_95 (by rfl) ?_
        refine y_get E dX3_readsPattern_96 fl_X3_253_X3 (m_o hA _ _) (by rfl) ?_
        refine y_iload_n E dX3_readsPattern_99 (by rfl) ?_
        refine y_iast E dX3_readsPattern_100 (m_r21 hA _ _) (by omega) ?_
        refine y_heap (m_w21 hA) ?_
        try simp (decide := true) only [upN_s, upN_n, upN_upN, upN_id, remT_5, remT_8]
        refine y_iload_n E dX3_readsPattern_101 (by rfl) ?_
        refine y_iconst E dX3_readsPattern_102 ?_
        refine y_icmp_le (tgt := 110) E dX3_readsPattern_103 (by decide) (by omega) (by omega) (fun h103 => ?_) (fun h103 => ?_)
        · refine y_iconst E dX3_readsPattern_110 ?_
          refine y_ireturn E F rfl rfl dX3_readsPattern_111 (by omega) (by omega) (by first | (rw [show patT T = (decide (3 < x), upN T1 21 (upI (T1 21) (T1 23 0) x)) from by unfold patT; rw [if_neg (by rw [e1]; decide), if_neg (by rw [e2]; decide), ←hfin]]; exact ⟨by first | (rw [decide_eq_true (by omega)]; rfl) | (rw [decide_eq_false (by omega)]; rfl), rfl⟩))
        · refine y_iconst E dX3_readsPattern_106 ?_
          refine y_goto (tgt := 111) E dX3_readsPattern_107 (by decide) ?_
          refine y_ireturn E F rfl rfl dX3_readsPattern_111 (by omega) (by omega) (by first | (rw [show patT T = (decide (3 < x), upN T1 21 (upI (T1 21) (T1 23 0) x)) from by unfold patT; rw [if_neg (by rw [e1]; decide), if_neg (by rw [e2]; decide), ←hfin]]; exact ⟨by first | (rw [decide_eq_true (by omega)]; rfl) | (rw [decide_eq_false (by omega)]; rfl), rfl⟩))
      · first | refine y_ald_n E dX3_readsPattern_29 (by rfl) ?_ | refine y_aload_n E dX3_readsPattern_29 (by rfl) ?_
        first | refine y_ald_n E dX3_readsPattern_30 (by rfl) ?_ | refine y_aload_n E dX3_readsPattern_30 (by rfl) ?_
        refine y_get E dX3_readsPattern_31 fl_X3_247_X3 (m_o hA _ _) (by rfl) ?_
        refine y_callV E dX3_readsPattern_34 lk_X3_250 (m_signAt hA ?_ ?_) (by rfl) (m_o hA _ _) rfl (by decide) (by omega) (by omega) rfl (Nat.le_of_ble_eq_true rfl) ?_ (fun _ _ _ h => h.elim)
        · exact hP1
        · omega
        rintro _ _ ⟨rfl, rfl⟩
        refine y_bipush E dX3_readsPattern_37 (by decide) ?_
        refine y_icmp_eq (tgt := 55) E dX3_readsPattern_39 (by decide) (by omega) (by omega) (fun h39 => ?_) (fun h39 => ?_)
        · refine y_iconst E dX3_readsPattern_55 ?_
          refine y_iload_n E dX3_readsPattern_56 (by rfl) ?_
          refine y_imul E dX3_readsPattern_57 ?_
          first | refine y_ald_n E dX3_readsPattern_58 (by rfl) ?_ | refine y_aload_n E dX3_readsPattern_58 (by rfl) ?_
          first | refine y_ald_n E dX3_readsPattern_59 (by rfl) ?_ | refine y_aload_n E dX3_readsPattern_59 (by rfl) ?_
          refine y_get E dX3_readsPattern_60 fl_X3_247_X3 (m_o hA _ _) (by rfl) ?_
          refine y_callV E dX3_readsPattern_63 lk_X3_250 (m_signAt hA ?_ ?_) (by rfl) (m_o hA _ _) rfl (by decide) (by omega) (by omega) rfl (Nat.le_of_ble_eq_true rfl) ?_ (fun _ _ _ h => h.elim)
          · exact hP1
          · omega
          rintro _ _ ⟨rfl, rfl⟩
          refine y_bipush E dX3_readsPattern_66 (by decide) ?_
          refine y_icmp_ne (tgt := 75) E dX3_readsPattern_68 (by decide) (by omega) (by omega) (fun h68 => ?_) (fun h68 => ?_)
          · refine y_iconst E dX3_readsPattern_75 ?_
            refine y_iadd E dX3_readsPattern_76 ?_
            refine y_istore_n (j := 1) E dX3_readsPattern_77 rfl (Nat.le_of_ble_eq_true rfl) ?_
            first | refine y_ald_n E dX3_readsPattern_78 (by rfl) ?_ | refine y_aload_n E dX3_readsPattern_78 (by rfl) ?_
            refine y_dup E dX3_readsPattern_79 rfl ?_
            refine y_get E dX3_readsPattern_80 fl_X3_247_X3 (m_o hA _ _) (by rfl) ?_
            refine y_iconst E dX3_readsPattern_83 ?_
            refine y_iadd E dX3_readsPattern_84 ?_
            refine y_put E dX3_readsPattern_85 fl_X3_247_X3 fw_X3_22 rfl (by rfl) (m_o hA _ _) (Nat.le_of_ble_eq_true rfl) ?_
            refine y_heap (m_p22 hA) ?_
            refine y_goto (tgt := 22) E dX3_readsPattern_88 (by decide) ?_
            first
              | (exfalso; omega)
              | exact ih (advT T1) _ (hP2 (by omega)) (by omega) (hpw 1 (by omega)) (by rw [if_pos (by omega), if_pos (by omega)] at hfin; exact hfin)
              | exact ih (advT T1) _ (hP2 (by omega)) (by omega) (hpw 0 (by omega)) (by rw [if_pos (by omega), if_neg (by omega)] at hfin; exact hfin)
          · refine y_iconst E dX3_readsPattern_71 ?_
            refine y_goto (tgt := 76) E dX3_readsPattern_72 (by decide) ?_
            refine y_iadd E dX3_readsPattern_76 ?_
            refine y_istore_n (j := 1) E dX3_readsPattern_77 rfl (Nat.le_of_ble_eq_true rfl) ?_
            first | refine y_ald_n E dX3_readsPattern_78 (by rfl) ?_ | refine y_aload_n E dX3_readsPattern_78 (by rfl) ?_
            refine y_dup E dX3_readsPattern_79 rfl ?_
            refine y_get E dX3_readsPattern_80 fl_X3_247_X3 (m_o hA _ _) (by rfl) ?_
            refine y_iconst E dX3_readsPattern_83 ?_
            refine y_iadd E dX3_readsPattern_84 ?_
            refine y_put E dX3_readsPattern_85 fl_X3_247_X3 fw_X3_22 rfl (by rfl) (m_o hA _ _) (Nat.le_of_ble_eq_true rfl) ?_
            refine y_heap (m_p22 hA) ?_
            refine y_goto (tgt := 22) E dX3_readsPattern_88 (by decide) ?_
            first
              | (exfalso; omega)
              | exact ih (advT T1) _ (hP2 (by omega)) (by omega) (hpw 1 (by omega)) (by rw [if_pos (by omega), if_pos (by omega)] at hfin; exact hfin)
              | exact ih (advT T1) _ (hP2 (by omega)) (by omega) (hpw 0 (by omega)) (by rw [if_pos (by omega), if_neg (by omega)] at hfin; exact hfin)
        · first | refine y_ald_n E dX3_readsPattern_42 (by rfl) ?_ | refine y_aload_n E dX3_readsPattern_42 (by rfl) ?_
          first | refine y_ald_n E dX3_readsPattern_43 (by rfl) ?_ | refine y_aload_n E dX3_readsPattern_43 (by rfl) ?_
          refine y_get E dX3_readsPattern_44 fl_X3_247_X3 (m_o hA _ _) (by rfl) ?_
          refine y_callV E dX3_readsPattern_47 lk_X3_250 (m_signAt hA ?_ ?_) (by rfl) (m_o hA _ _) rfl (by decide) (by omega) (by omega) rfl (Nat.le_of_ble_eq_true rfl) ?_ (fun _ _ _ h => h.elim)
          · exact hP1
          · omega
          rintro _ _ ⟨rfl, rfl⟩
          refine y_bipush E dX3_readsPattern_50 (by decide) ?_
          refine y_icmp_ne (tgt := 91) E dX3_readsPattern_52 (by decide) (by omega) (by omega) (fun h52 => ?_) (fun h52 => ?_)
          · first | refine y_ald_n E dX3_readsPattern_91 (by rfl) ?_ | refine y_aload_n E dX3_readsPattern_91 (by rfl) ?_
            rw [if_neg (by omega)] at hfin
            refine y_get E dX3_readsPattern_92 fl_X3_44_X3 (m_o hA _ _) (by rfl) ?_
            first | refine y_ald_n E dX3_readsPattern_95 (by rfl) ?_ | refine y_aload_n E dX3_readsPattern_95 (by rfl) ?_
            refine y_get E dX3_readsPattern_96 fl_X3_253_X3 (m_o hA _ _) (by rfl) ?_
            refine y_iload_n E dX3_readsPattern_99 (by rfl) ?_
            refine y_iast E dX3_readsPattern_100 (m_r21 hA _ _) (by omega) ?_
            refine y_heap (m_w21 hA) ?_
            try simp (decide := true) only [upN_s, upN_n, upN_upN, upN_id, remT_5, remT_8]
            refine y_iload_n E dX3_readsPattern_101 (by rfl) ?_
            refine y_iconst E dX3_readsPattern_102 ?_
            refine y_icmp_le (tgt := 110) E dX3_readsPattern_103 (by decide) (by omega) (by omega) (fun h103 => ?_) (fun h103 => ?_)
            · refine y_iconst E dX3_readsPattern_110 ?_
              refine y_ireturn E F rfl rfl dX3_readsPattern_111 (by omega) (by omega) (by first | (rw [show patT T = (decide (3 < x), upN T1 21 (upI (T1 21) (T1 23 0) x)) from by unfold patT; rw [if_neg (by rw [e1]; decide), if_neg (by rw [e2]; decide), ←hfin]]; exact ⟨by first | (rw [decide_eq_true (by omega)]; rfl) | (rw [decide_eq_false (by omega)]; rfl), rfl⟩))
            · refine y_iconst E dX3_readsPattern_106 ?_
              refine y_goto (tgt := 111) E dX3_readsPattern_107 (by decide) ?_
              refine y_ireturn E F rfl rfl dX3_readsPattern_111 (by omega) (by omega) (by first | (rw [show patT T = (decide (3 < x), upN T1 21 (upI (T1 21) (T1 23 0) x)) from by unfold patT; rw [if_neg (by rw [e1]; decide), if_neg (by rw [e2]; decide), ←hfin]]; exact ⟨by first | (rw [decide_eq_true (by omega)]; rfl) | (rw [decide_eq_false (by omega)]; rfl), rfl⟩))
          · refine y_iconst E dX3_readsPattern_55 ?_
            refine y_iload_n E dX3_readsPattern_56 (by rfl) ?_
            refine y_imul E dX3_readsPattern_57 ?_
            first | refine y_ald_n E dX3_readsPattern_58 (by rfl) ?_ | refine y_aload_n E dX3_readsPattern_58 (by rfl) ?_
            first | refine y_ald_n E dX3_readsPattern_59 (by rfl) ?_ | refine y_aload_n E dX3_readsPattern_59 (by rfl) ?_
            refine y_get E dX3_readsPattern_60 fl_X3_247_X3 (m_o hA _ _) (by rfl) ?_
            refine y_callV E dX3_readsPattern_63 lk_X3_250 (m_signAt hA ?_ ?_) (by rfl) (m_o hA _ _) rfl (by decide) (by omega) (by omega) rfl (Nat.le_of_ble_eq_true rfl) ?_ (fun _ _ _ h => h.elim)
            · exact hP1
            · omega
            rintro _ _ ⟨rfl, rfl⟩
            refine y_bipush E dX3_readsPattern_66 (by decide) ?_
            refine y_icmp_ne (tgt := 75) E dX3_readsPattern_68 (by decide) (by omega) (by omega) (fun h68 => ?_) (fun h68 => ?_)
            · refine y_iconst E dX3_readsPattern_75 ?_
              refine y_iadd E dX3_readsPattern_76 ?_
              refine y_istore_n (j := 1) E dX3_readsPattern_77 rfl (Nat.le_of_ble_eq_true rfl) ?_
              first | refine y_ald_n E dX3_readsPattern_78 (by rfl) ?_ | refine y_aload_n E dX3_readsPattern_78 (by rfl) ?_
              refine y_dup E dX3_readsPattern_79 rfl ?_
              refine y_get E dX3_readsPattern_80 fl_X3_247_X3 (m_o hA _ _) (by rfl) ?_
              refine y_iconst E dX3_readsPattern_83 ?_
              refine y_iadd E dX3_readsPattern_84 ?_
              refine y_put E dX3_readsPattern_85 fl_X3_247_X3 fw_X3_22 rfl (by rfl) (m_o hA _ _) (Nat.le_of_ble_eq_true rfl) ?_
              refine y_heap (m_p22 hA) ?_
              refine y_goto (tgt := 22) E dX3_readsPattern_88 (by decide) ?_
              first
                | (exfalso; omega)
                | exact ih (advT T1) _ (hP2 (by omega)) (by omega) (hpw 1 (by omega)) (by rw [if_pos (by omega), if_pos (by omega)] at hfin; exact hfin)
                | exact ih (advT T1) _ (hP2 (by omega)) (by omega) (hpw 0 (by omega)) (by rw [if_pos (by omega), if_neg (by omega)] at hfin; exact hfin)
            · refine y_iconst E dX3_readsPattern_71 ?_
              refine y_goto (tgt := 76) E dX3_readsPattern_72 (by decide) ?_
              refine y_iadd E dX3_readsPattern_76 ?_
              refine y_istore_n (j := 1) E dX3_readsPattern_77 rfl (Nat.le_of_ble_eq_true rfl) ?_
              first | refine y_ald_n E dX3_readsPattern_78 (by rfl) ?_ | refine y_aload_n E dX3_readsPattern_78 (by rfl) ?_
              refine y_dup E dX3_readsPattern_79 rfl ?_
              refine y_get E dX3_readsPattern_80 fl_X3_247_X3 (m_o hA _ _) (by rfl) ?_
              refine y_iconst E dX3_readsPattern_83 ?_
              refine y_iadd E dX3_readsPattern_84 ?_
              refine y_put E dX3_readsPattern_85 fl_X3_247_X3 fw_X3_22 rfl (by rfl) (m_o hA _ _) (Nat.le_of_ble_eq_true rfl) ?_
              refine y_heap (m_p22 hA) ?_
              refine y_goto (tgt := 22) E dX3_readsPattern_88 (by decide) ?_
              first
                | (exfalso; omega)
                | exact ih (advT T1) _ (hP2 (by omega)) (by omega) (hpw 1 (by omega)) (by rw [if_pos (by omega), if_pos (by omega)] at hfin; exact hfin)
                | exact ih (advT T1) _ (hP2 (by omega)) (by omega) (hpw 0 (by omega)) (by rw [if_pos (by omega), if_neg (by omega)] at hfin; exact hfin)
  first | refine y_ald_n E dX3_readsPattern_0 (by rfl) ?_ | refine y_aload_n E dX3_readsPattern_0 (by rfl) ?_
  refine y_bipush E dX3_readsPattern_1 (by decide) ?_
  refine y_callV E dX3_readsPattern_3 lk_X3_256 (m_readsDigit hA ?_ ?_) (by rfl) (m_o hA _ _) rfl (by decide) (by omega) (by omega) rfl (Nat.le_of_ble_eq_true rfl) ?_ (fun _ _ _ h => h.elim)
  · exact hP
  · omega
  rintro _ _ ⟨rfl, rfl⟩
  refine y_ifb_eq (tgt := 18) E dX3_readsPattern_6 (by decide) (fun h6 => ?_) (fun h6 => ?_)
  · refine y_iconst E dX3_readsPattern_18 ?_
    refine y_ireturn E F rfl rfl dX3_readsPattern_19 (by omega) (by omega) (by first | (rw [show patT T = (false, (digT T 7).2) from by unfold patT; rw [if_pos h6]]; exact ⟨rfl, rfl⟩) | (rw [show patT T = (false, (takT (digT T 7).2 58).2) from by unfold patT; rw [if_neg (by rw [h6]; decide), if_pos h15]]; exact ⟨rfl, rfl⟩))
  · first | refine y_ald_n E dX3_readsPattern_9 (by rfl) ?_ | refine y_aload_n E dX3_readsPattern_9 (by rfl) ?_
    refine y_bipush E dX3_readsPattern_10 (by decide) ?_
    refine y_callV E dX3_readsPattern_12 lk_X3_259 (m_takes hA ?_ ?_) (by rfl) (m_o hA _ _) rfl (by decide) (by omega) (by omega) rfl (Nat.le_of_ble_eq_true rfl) ?_ (fun _ _ _ h => h.elim)
    · exact h1
    · omega
    rintro _ _ ⟨rfl, rfl⟩
    refine y_ifb_ne (tgt := 20) E dX3_readsPattern_15 (by decide) (fun h15 => ?_) (fun h15 => ?_)
    · refine y_iconst E dX3_readsPattern_20 ?_
      refine y_istore_n (j := 1) E dX3_readsPattern_21 rfl (Nat.le_of_ble_eq_true rfl) ?_
      exact loop h6 h15 9 _ 1 h2 (by omega) (by decide) rfl
    · refine y_iconst E dX3_readsPattern_18 ?_
      refine y_ireturn E F rfl rfl dX3_readsPattern_19 (by omega) (by omega) (by first | (rw [show patT T = (false, (digT T 7).2) from by unfold patT; rw [if_pos h6]]; exact ⟨rfl, rfl⟩) | (rw [show patT T = (false, (takT (digT T 7).2 58).2) from by unfold patT; rw [if_neg (by rw [h6]; decide), if_pos h15]]; exact ⟨rfl, rfl⟩))
theorem m_readsNumber (hA : mA A) (hP : PI T) : Ct_X3_readsNumber Γ 3 0 0 [.ref (A 0)] (mH A T G) (fun v G' => v = some (.int (iI (b2i ((numT T).1)))) ∧ G' = mH A ((numT T).2) G) noX := by
  refine y_start (lv0 := [some (.ref (A 0))]) (nm := "readsNumber") (own := RX3) (by decide +kernel) rfl rfl (by exact Nat.le_of_ble_eq_true rfl) (by rfl) ?_
  intro Z Q E F
  have h1 := PI_dig hP (x := 9) (by omega)
  have h1a := h1.1
  have h1b := h1.2.1
  have h1c := h1.2.2.1
  have hch := chT_in h1 h1b.1
  first | refine y_ald_n E dX3_readsNumber_0 (by rfl) ?_ | refine y_aload_n E dX3_readsNumber_0 (by rfl) ?_
  refine y_bipush E dX3_readsNumber_1 (by decide) ?_
  refine y_callV E dX3_readsNumber_3 lk_X3_256 (m_readsDigit hA ?_ ?_) (by rfl) (m_o hA _ _) rfl (by decide) (by omega) (by omega) rfl (Nat.le_of_ble_eq_true rfl) ?_ (fun _ _ _ h => h.elim)
  · exact hP
  · omega
  rintro _ _ ⟨rfl, rfl⟩
  refine y_ifb_ne (tgt := 11) E dX3_readsNumber_6 (by decide) (fun h6 => ?_) (fun h6 => ?_)
  · first | refine y_ald_n E dX3_readsNumber_11 (by rfl) ?_ | refine y_aload_n E dX3_readsNumber_11 (by rfl) ?_
    first | refine y_ald_n E dX3_readsNumber_12 (by rfl) ?_ | refine y_aload_n E dX3_readsNumber_12 (by rfl) ?_
    refine y_get E dX3_readsNumber_13 fl_X3_247_X3 (m_o hA _ _) (by rfl) ?_
    refine y_callV E dX3_readsNumber_16 lk_X3_250 (m_signAt hA ?_ ?_) (by rfl) (m_o hA _ _) rfl (by decide) (by omega) (by omega) rfl (Nat.le_of_ble_eq_true rfl) ?_ (fun _ _ _ h => h.elim)
    · exact h1
    · omega
    rintro _ _ ⟨rfl, rfl⟩
    refine y_bipush E dX3_readsNumber_19 (by decide) ?_
    refine y_bipush E dX3_readsNumber_21 (by decide) ?_
    refine y_callS E dX3_readsNumber_23 lk_X3_77 (m_isBetween ?_ ?_ ?_) (by rfl) (by decide) (by omega) (by omega) rfl (Nat.le_of_ble_eq_true rfl) ?_ (fun _ _ _ h => h.elim)
    · first | omega | (simp (decide := true) only [upN_s, upN_n, upN_upN, upN_id, remT_5, remT_8] <;> omega)
    · first | omega | (simp (decide := true) only [upN_s, upN_n, upN_upN, upN_id, remT_5, remT_8] <;> omega)
    · first | omega | (simp (decide := true) only [upN_s, upN_n, upN_upN, upN_id, remT_5, remT_8] <;> omega)
    rintro _ _ ⟨rfl, rfl⟩
    refine y_ifd_eq (tgt := 72) E dX3_readsNumber_26 (by decide) (fun h26 => ?_) (fun h26 => ?_)
    · refine y_iconst E dX3_readsNumber_72 ?_
      refine y_ireturn E F rfl rfl dX3_readsNumber_73 (by omega) (by omega) (by first | (rw [show numT T = (true, advT (upN (digT T 9).2 20 (upI ((digT T 9).2 20) ((digT T 9).2 23 0) (10 * (digT T 9).2 20 ((digT T 9).2 23 0) + chT (digT T 9).2 ((digT T 9).2 22 0) - 48)))) from by unfold numT; rw [if_neg (by rw [h6]; decide), if_pos (by omega)]]; exact ⟨rfl, rfl⟩) | (rw [show numT T = (true, (digT T 9).2) from by unfold numT; rw [if_neg (by rw [h6]; decide), if_neg (by omega)]]; exact ⟨rfl, rfl⟩))
    · first | refine y_ald_n E dX3_readsNumber_29 (by rfl) ?_ | refine y_aload_n E dX3_readsNumber_29 (by rfl) ?_
      refine y_get E dX3_readsNumber_30 fl_X3_41_X3 (m_o hA _ _) (by rfl) ?_
      first | refine y_ald_n E dX3_readsNumber_33 (by rfl) ?_ | refine y_aload_n E dX3_readsNumber_33 (by rfl) ?_
      refine y_get E dX3_readsNumber_34 fl_X3_253_X3 (m_o hA _ _) (by rfl) ?_
      refine y_bipush E dX3_readsNumber_37 (by decide) ?_
      first | refine y_ald_n E dX3_readsNumber_39 (by rfl) ?_ | refine y_aload_n E dX3_readsNumber_39 (by rfl) ?_
      refine y_get E dX3_readsNumber_40 fl_X3_41_X3 (m_o hA _ _) (by rfl) ?_
      first | refine y_ald_n E dX3_readsNumber_43 (by rfl) ?_ | refine y_aload_n E dX3_readsNumber_43 (by rfl) ?_
      refine y_get E dX3_readsNumber_44 fl_X3_253_X3 (m_o hA _ _) (by rfl) ?_
      refine y_iald E dX3_readsNumber_47 (m_r20 hA _ _) (by omega) ?_
      refine y_imul E dX3_readsNumber_48 ?_
      first | refine y_ald_n E dX3_readsNumber_49 (by rfl) ?_ | refine y_aload_n E dX3_readsNumber_49 (by rfl) ?_
      first | refine y_ald_n E dX3_readsNumber_50 (by rfl) ?_ | refine y_aload_n E dX3_readsNumber_50 (by rfl) ?_
      refine y_get E dX3_readsNumber_51 fl_X3_247_X3 (m_o hA _ _) (by rfl) ?_
      refine y_callV E dX3_readsNumber_54 lk_X3_250 (m_signAt hA ?_ ?_) (by rfl) (m_o hA _ _) rfl (by decide) (by omega) (by omega) rfl (Nat.le_of_ble_eq_true rfl) ?_ (fun _ _ _ h => h.elim)
      · exact h1
      · omega
      rintro _ _ ⟨rfl, rfl⟩
      refine y_iadd E dX3_readsNumber_57 ?_
      refine y_bipush E dX3_readsNumber_58 (by decide) ?_
      refine y_isub E dX3_readsNumber_60 ?_
      refine y_iast E dX3_readsNumber_61 (m_r20 hA _ _) (by omega) ?_
      refine y_heap (m_w20 hA) ?_
      try simp (decide := true) only [upN_s, upN_n, upN_upN, upN_id, remT_5, remT_8]
      first | refine y_ald_n E dX3_readsNumber_62 (by rfl) ?_ | refine y_aload_n E dX3_readsNumber_62 (by rfl) ?_
      refine y_dup E dX3_readsNumber_63 rfl ?_
      refine y_get E dX3_readsNumber_64 fl_X3_247_X3 (m_o hA _ _) (by rfl) ?_
      try simp (decide := true) only [upN_s, upN_n, upN_upN, upN_id, remT_5, remT_8]
      refine y_iconst E dX3_readsNumber_67 ?_
      refine y_iadd E dX3_readsNumber_68 ?_
      refine y_put E dX3_readsNumber_69 fl_X3_247_X3 fw_X3_22 rfl (by rfl) (m_o hA _ _) (Nat.le_of_ble_eq_true rfl) ?_
      refine y_heap (m_p22 hA) ?_
      refine y_iconst E dX3_readsNumber_72 ?_
      refine y_ireturn E F rfl rfl dX3_readsNumber_73 (by omega) (by omega) (by first | (rw [show numT T = (true, advT (upN (digT T 9).2 20 (upI ((digT T 9).2 20) ((digT T 9).2 23 0) (10 * (digT T 9).2 20 ((digT T 9).2 23 0) + chT (digT T 9).2 ((digT T 9).2 22 0) - 48)))) from by unfold numT; rw [if_neg (by rw [h6]; decide), if_pos (by omega)]]; exact ⟨rfl, rfl⟩) | (rw [show numT T = (true, (digT T 9).2) from by unfold numT; rw [if_neg (by rw [h6]; decide), if_neg (by omega)]]; exact ⟨rfl, rfl⟩))
  · refine y_iconst E dX3_readsNumber_9 ?_
    refine y_ireturn E F rfl rfl dX3_readsNumber_10 (by omega) (by omega) (by first | (rw [show numT T = (false, (digT T 9).2) from by unfold numT; rw [if_pos h6]]; exact ⟨rfl, rfl⟩))
theorem m_readsCommand (hA : mA A) (hP : PI T) : Ct_X3_readsCommand Γ 4 0 0 [.ref (A 0)] (mH A T G) (fun v G' => v = some (.int (iI (b2i ((cmdT T).1)))) ∧ G' = mH A ((cmdT T).2) G) noX := by
  refine y_start (lv0 := [some (.ref (A 0))]) (nm := "readsCommand") (own := RX3) (by decide +kernel) rfl rfl (by exact Nat.le_of_ble_eq_true rfl) (by rfl) ?_
  intro Z Q E F
  have h0 := PI_cm0 hP
  have hPa := hP.1
  have hPb := hP.2.1
  have hPc := hP.2.2.1
  have h1 := fun q : 0 ≤ chT T (T 22 0) => PI_adv h0 (chT_lt q)
  first | refine y_ald_n E dX3_readsCommand_0 (by rfl) ?_ | refine y_aload_n E dX3_readsCommand_0 (by rfl) ?_
  refine y_get E dX3_readsCommand_1 fl_X3_38_X3 (m_o hA _ _) (by rfl) ?_
  first | refine y_ald_n E dX3_readsCommand_4 (by rfl) ?_ | refine y_aload_n E dX3_readsCommand_4 (by rfl) ?_
  refine y_get E dX3_readsCommand_5 fl_X3_253_X3 (m_o hA _ _) (by rfl) ?_
  first | refine y_ald_n E dX3_readsCommand_8 (by rfl) ?_ | refine y_aload_n E dX3_readsCommand_8 (by rfl) ?_
  first | refine y_ald_n E dX3_readsCommand_9 (by rfl) ?_ | refine y_aload_n E dX3_readsCommand_9 (by rfl) ?_
  refine y_get E dX3_readsCommand_10 fl_X3_247_X3 (m_o hA _ _) (by rfl) ?_
  refine y_callV E dX3_readsCommand_13 lk_X3_250 (m_signAt hA ?_ ?_) (by rfl) (m_o hA _ _) rfl (by decide) (by omega) (by omega) rfl (Nat.le_of_ble_eq_true rfl) ?_ (fun _ _ _ h => h.elim)
  · exact hP
  · omega
  rintro _ _ ⟨rfl, rfl⟩
  refine y_iast E dX3_readsCommand_16 (m_r19 hA _ _) (by omega) ?_
  refine y_heap (m_w19 hA) ?_
  try simp (decide := true) only [upN_s, upN_n, upN_upN, upN_id, remT_5, remT_8]
  refine y_heap (show _ = mH A (cm0 T) G from rfl) ?_
  first | refine y_ald_n E dX3_readsCommand_17 (by rfl) ?_ | refine y_aload_n E dX3_readsCommand_17 (by rfl) ?_
  refine y_bipush E dX3_readsCommand_18 (by decide) ?_
  refine y_callV E dX3_readsCommand_20 lk_X3_259 (m_takes hA ?_ ?_) (by rfl) (m_o hA _ _) rfl (by decide) (by omega) (by omega) rfl (Nat.le_of_ble_eq_true rfl) ?_ (fun _ _ _ h => h.elim)
  · exact h0
  · omega
  rintro _ _ ⟨rfl, rfl⟩
  try simp (decide := true) only [upN_s, upN_n, upN_upN, upN_id, remT_5, remT_8]
  refine y_ifb_ne (tgt := 62) E dX3_readsCommand_23 (by decide) (fun h23 => ?_) (fun h23 => ?_)
  · first
      | (have ee := takT_t h59; have ec : chT T (T 22 0) = 83 := ee.2; rw [ee.1])
      | (have ee := takT_t h50; have ec : chT T (T 22 0) = 77 := ee.2; rw [ee.1])
      | (have ee := takT_t h41; have ec : chT T (T 22 0) = 66 := ee.2; rw [ee.1])
      | (have ee := takT_t h32; have ec : chT T (T 22 0) = 68 := ee.2; rw [ee.1])
      | (have ee := takT_t h23; have ec : chT T (T 22 0) = 76 := ee.2; rw [ee.1])
    first | refine y_ald_n E dX3_readsCommand_62 (by rfl) ?_ | refine y_aload_n E dX3_readsCommand_62 (by rfl) ?_
    refine y_bipush E dX3_readsCommand_63 (by decide) ?_
    refine y_callV E dX3_readsCommand_65 lk_X3_256 (m_readsDigit hA ?_ ?_) (by rfl) (m_o hA _ _) rfl (by decide) (by omega) (by omega) rfl (Nat.le_of_ble_eq_true rfl) ?_ (fun _ _ _ h => h.elim)
    · exact h1 (by omega)
    · omega
    rintro _ _ ⟨rfl, rfl⟩
    try simp (decide := true) only [upN_s, upN_n, upN_upN, upN_id, remT_5, remT_8]
    refine y_ireturn E F rfl (nar_b _) dX3_readsCommand_68 (by omega) (by omega) (by rw [show cmdT T = digT (advT (cm0 T)) 7 from by unfold cmdT; rw [if_pos (by omega)]]; exact ⟨rfl, rfl⟩)
  · have e23 := takT_f h23
    have n23 : chT T (T 22 0) ≠ 76 := e23.2
    rw [e23.1]
    first | refine y_ald_n E dX3_readsCommand_26 (by rfl) ?_ | refine y_aload_n E dX3_readsCommand_26 (by rfl) ?_
    refine y_bipush E dX3_readsCommand_27 (by decide) ?_
    refine y_callV E dX3_readsCommand_29 lk_X3_259 (m_takes hA ?_ ?_) (by rfl) (m_o hA _ _) rfl (by decide) (by omega) (by omega) rfl (Nat.le_of_ble_eq_true rfl) ?_ (fun _ _ _ h => h.elim)
    · exact h0
    · omega
    rintro _ _ ⟨rfl, rfl⟩
    try simp (decide := true) only [upN_s, upN_n, upN_upN, upN_id, remT_5, remT_8]
    refine y_ifb_ne (tgt := 62) E dX3_readsCommand_32 (by decide) (fun h32 => ?_) (fun h32 => ?_)
    · first
        | (have ee := takT_t h59; have ec : chT T (T 22 0) = 83 := ee.2; rw [ee.1])
        | (have ee := takT_t h50; have ec : chT T (T 22 0) = 77 := ee.2; rw [ee.1])
        | (have ee := takT_t h41; have ec : chT T (T 22 0) = 66 := ee.2; rw [ee.1])
        | (have ee := takT_t h32; have ec : chT T (T 22 0) = 68 := ee.2; rw [ee.1])
        | (have ee := takT_t h23; have ec : chT T (T 22 0) = 76 := ee.2; rw [ee.1])
      first | refine y_ald_n E dX3_readsCommand_62 (by rfl) ?_ | refine y_aload_n E dX3_readsCommand_62 (by rfl) ?_
      refine y_bipush E dX3_readsCommand_63 (by decide) ?_
      refine y_callV E dX3_readsCommand_65 lk_X3_256 (m_readsDigit hA ?_ ?_) (by rfl) (m_o hA _ _) rfl (by decide) (by omega) (by omega) rfl (Nat.le_of_ble_eq_true rfl) ?_ (fun _ _ _ h => h.elim)
      · exact h1 (by omega)
      · omega
      rintro _ _ ⟨rfl, rfl⟩
      try simp (decide := true) only [upN_s, upN_n, upN_upN, upN_id, remT_5, remT_8]
      refine y_ireturn E F rfl (nar_b _) dX3_readsCommand_68 (by omega) (by omega) (by rw [show cmdT T = digT (advT (cm0 T)) 7 from by unfold cmdT; rw [if_pos (by omega)]]; exact ⟨rfl, rfl⟩)
    · have e32 := takT_f h32
      have n32 : chT T (T 22 0) ≠ 68 := e32.2
      rw [e32.1]
      first | refine y_ald_n E dX3_readsCommand_35 (by rfl) ?_ | refine y_aload_n E dX3_readsCommand_35 (by rfl) ?_
      refine y_bipush E dX3_readsCommand_36 (by decide) ?_
      refine y_callV E dX3_readsCommand_38 lk_X3_259 (m_takes hA ?_ ?_) (by rfl) (m_o hA _ _) rfl (by decide) (by omega) (by omega) rfl (Nat.le_of_ble_eq_true rfl) ?_ (fun _ _ _ h => h.elim)
      · exact h0
      · omega
      rintro _ _ ⟨rfl, rfl⟩
      try simp (decide := true) only [upN_s, upN_n, upN_upN, upN_id, remT_5, remT_8]
      refine y_ifb_ne (tgt := 62) E dX3_readsCommand_41 (by decide) (fun h41 => ?_) (fun h41 => ?_)
      · first
          | (have ee := takT_t h59; have ec : chT T (T 22 0) = 83 := ee.2; rw [ee.1])
          | (have ee := takT_t h50; have ec : chT T (T 22 0) = 77 := ee.2; rw [ee.1])
          | (have ee := takT_t h41; have ec : chT T (T 22 0) = 66 := ee.2; rw [ee.1])
          | (have ee := takT_t h32; have ec : chT T (T 22 0) = 68 := ee.2; rw [ee.1])
          | (have ee := takT_t h23; have ec : chT T (T 22 0) = 76 := ee.2; rw [ee.1])
        first | refine y_ald_n E dX3_readsCommand_62 (by rfl) ?_ | refine y_aload_n E dX3_readsCommand_62 (by rfl) ?_
        refine y_bipush E dX3_readsCommand_63 (by decide) ?_
        refine y_callV E dX3_readsCommand_65 lk_X3_256 (m_readsDigit hA ?_ ?_) (by rfl) (m_o hA _ _) rfl (by decide) (by omega) (by omega) rfl (Nat.le_of_ble_eq_true rfl) ?_ (fun _ _ _ h => h.elim)
        · exact h1 (by omega)
        · omega
        rintro _ _ ⟨rfl, rfl⟩
        try simp (decide := true) only [upN_s, upN_n, upN_upN, upN_id, remT_5, remT_8]
        refine y_ireturn E F rfl (nar_b _) dX3_readsCommand_68 (by omega) (by omega) (by rw [show cmdT T = digT (advT (cm0 T)) 7 from by unfold cmdT; rw [if_pos (by omega)]]; exact ⟨rfl, rfl⟩)
      · have e41 := takT_f h41
        have n41 : chT T (T 22 0) ≠ 66 := e41.2
        rw [e41.1]
        first | refine y_ald_n E dX3_readsCommand_44 (by rfl) ?_ | refine y_aload_n E dX3_readsCommand_44 (by rfl) ?_
        refine y_bipush E dX3_readsCommand_45 (by decide) ?_
        refine y_callV E dX3_readsCommand_47 lk_X3_259 (m_takes hA ?_ ?_) (by rfl) (m_o hA _ _) rfl (by decide) (by omega) (by omega) rfl (Nat.le_of_ble_eq_true rfl) ?_ (fun _ _ _ h => h.elim)
        · exact h0
        · omega
        rintro _ _ ⟨rfl, rfl⟩
        try simp (decide := true) only [upN_s, upN_n, upN_upN, upN_id, remT_5, remT_8]
        refine y_ifb_ne (tgt := 62) E dX3_readsCommand_50 (by decide) (fun h50 => ?_) (fun h50 => ?_)
        · first
            | (have ee := takT_t h59; have ec : chT T (T 22 0) = 83 := ee.2; rw [ee.1])
            | (have ee := takT_t h50; have ec : chT T (T 22 0) = 77 := ee.2; rw [ee.1])
            | (have ee := takT_t h41; have ec : chT T (T 22 0) = 66 := ee.2; rw [ee.1])
            | (have ee := takT_t h32; have ec : chT T (T 22 0) = 68 := ee.2; rw [ee.1])
            | (have ee := takT_t h23; have ec : chT T (T 22 0) = 76 := ee.2; rw [ee.1])
          first | refine y_ald_n E dX3_readsCommand_62 (by rfl) ?_ | refine y_aload_n E dX3_readsCommand_62 (by rfl) ?_
          refine y_bipush E dX3_readsCommand_63 (by decide) ?_
          refine y_callV E dX3_readsCommand_65 lk_X3_256 (m_readsDigit hA ?_ ?_) (by rfl) (m_o hA _ _) rfl (by decide) (by omega) (by omega) rfl (Nat.le_of_ble_eq_true rfl) ?_ (fun _ _ _ h => h.elim)
          · exact h1 (by omega)
          · omega
          rintro _ _ ⟨rfl, rfl⟩
          try simp (decide := true) only [upN_s, upN_n, upN_upN, upN_id, remT_5, remT_8]
          refine y_ireturn E F rfl (nar_b _) dX3_readsCommand_68 (by omega) (by omega) (by rw [show cmdT T = digT (advT (cm0 T)) 7 from by unfold cmdT; rw [if_pos (by omega)]]; exact ⟨rfl, rfl⟩)
        · have e50 := takT_f h50
          have n50 : chT T (T 22 0) ≠ 77 := e50.2
          rw [e50.1]
          first | refine y_ald_n E dX3_readsCommand_53 (by rfl) ?_ | refine y_aload_n E dX3_readsCommand_53 (by rfl) ?_
          refine y_bipush E dX3_readsCommand_54 (by decide) ?_
          refine y_callV E dX3_readsCommand_56 lk_X3_259 (m_takes hA ?_ ?_) (by rfl) (m_o hA _ _) rfl (by decide) (by omega) (by omega) rfl (Nat.le_of_ble_eq_true rfl) ?_ (fun _ _ _ h => h.elim)
          · exact h0
          · omega
          rintro _ _ ⟨rfl, rfl⟩
          try simp (decide := true) only [upN_s, upN_n, upN_upN, upN_id, remT_5, remT_8]
          refine y_ifb_eq (tgt := 69) E dX3_readsCommand_59 (by decide) (fun h59 => ?_) (fun h59 => ?_)
          · have e59 := takT_f h59
            have n59 : chT T (T 22 0) ≠ 83 := e59.2
            rw [e59.1]
            first | refine y_ald_n E dX3_readsCommand_69 (by rfl) ?_ | refine y_aload_n E dX3_readsCommand_69 (by rfl) ?_
            refine y_bipush E dX3_readsCommand_70 (by decide) ?_
            refine y_callV E dX3_readsCommand_72 lk_X3_259 (m_takes hA ?_ ?_) (by rfl) (m_o hA _ _) rfl (by decide) (by omega) (by omega) rfl (Nat.le_of_ble_eq_true rfl) ?_ (fun _ _ _ h => h.elim)
            · exact h0
            · omega
            rintro _ _ ⟨rfl, rfl⟩
            try simp (decide := true) only [upN_s, upN_n, upN_upN, upN_id, remT_5, remT_8]
            refine y_ifb_eq (tgt := 83) E dX3_readsCommand_75 (by decide) (fun h75 => ?_) (fun h75 => ?_)
            · have e75 := takT_f h75
              have n75 : chT T (T 22 0) ≠ 70 := e75.2
              rw [e75.1]
              first | refine y_ald_n E dX3_readsCommand_83 (by rfl) ?_ | refine y_aload_n E dX3_readsCommand_83 (by rfl) ?_
              refine y_bipush E dX3_readsCommand_84 (by decide) ?_
              refine y_callV E dX3_readsCommand_86 lk_X3_259 (m_takes hA ?_ ?_) (by rfl) (m_o hA _ _) rfl (by decide) (by omega) (by omega) rfl (Nat.le_of_ble_eq_true rfl) ?_ (fun _ _ _ h => h.elim)
              · exact h0
              · omega
              rintro _ _ ⟨rfl, rfl⟩
              try simp (decide := true) only [upN_s, upN_n, upN_upN, upN_id, remT_5, remT_8]
              refine y_ifb_eq (tgt := 97) E dX3_readsCommand_89 (by decide) (fun h89 => ?_) (fun h89 => ?_)
              · have e89 := takT_f h89
                have n89 : chT T (T 22 0) ≠ 80 := e89.2
                rw [e89.1]
                first | refine y_ald_n E dX3_readsCommand_97 (by rfl) ?_ | refine y_aload_n E dX3_readsCommand_97 (by rfl) ?_
                refine y_bipush E dX3_readsCommand_98 (by decide) ?_
                refine y_callV E dX3_readsCommand_100 lk_X3_259 (m_takes hA ?_ ?_) (by rfl) (m_o hA _ _) rfl (by decide) (by omega) (by omega) rfl (Nat.le_of_ble_eq_true rfl) ?_ (fun _ _ _ h => h.elim)
                · exact h0
                · omega
                rintro _ _ ⟨rfl, rfl⟩
                try simp (decide := true) only [upN_s, upN_n, upN_upN, upN_id, remT_5, remT_8]
                refine y_ifb_eq (tgt := 117) E dX3_readsCommand_103 (by decide) (fun h103 => ?_) (fun h103 => ?_)
                · refine y_iconst E dX3_readsCommand_117 ?_
                  refine y_ireturn E F rfl rfl dX3_readsCommand_118 (by omega) (by omega) (by first
                      | (have eN : cmdT T = numT (advT (cm0 T)) := by unfold cmdT; rw [if_neg (by omega), if_neg (by omega), if_neg (by omega), if_pos (by omega)]
                         rw [eN, h110]; exact ⟨rfl, rfl⟩)
                      | (have e103 := takT_f h103; have n103 : chT T (T 22 0) ≠ 78 := e103.2; rw [e103.1, show cmdT T = (false, cm0 T) from by unfold cmdT; rw [if_neg (by omega), if_neg (by omega), if_neg (by omega), if_neg (by omega)]]; exact ⟨rfl, rfl⟩))
                · have ee := takT_t h103
                  have ec : chT T (T 22 0) = 78 := ee.2
                  rw [ee.1]
                  first | refine y_ald_n E dX3_readsCommand_106 (by rfl) ?_ | refine y_aload_n E dX3_readsCommand_106 (by rfl) ?_
                  refine y_callV E dX3_readsCommand_107 lk_X3_268 (m_readsNumber hA ?_) (by rfl) (m_o hA _ _) rfl (by decide) (by omega) (by omega) rfl (Nat.le_of_ble_eq_true rfl) ?_ (fun _ _ _ h => h.elim)
                  · exact h1 (by omega)
                  rintro _ _ ⟨rfl, rfl⟩
                  try simp (decide := true) only [upN_s, upN_n, upN_upN, upN_id, remT_5, remT_8]
                  refine y_ifb_eq (tgt := 117) E dX3_readsCommand_110 (by decide) (fun h110 => ?_) (fun h110 => ?_)
                  · refine y_iconst E dX3_readsCommand_117 ?_
                    refine y_ireturn E F rfl rfl dX3_readsCommand_118 (by omega) (by omega) (by first
                        | (have eN : cmdT T = numT (advT (cm0 T)) := by unfold cmdT; rw [if_neg (by omega), if_neg (by omega), if_neg (by omega), if_pos (by omega)]
                           rw [eN, h110]; exact ⟨rfl, rfl⟩)
                        | (have e103 := takT_f h103; have n103 : chT T (T 22 0) ≠ 78 := e103.2; rw [e103.1, show cmdT T = (false, cm0 T) from by unfold cmdT; rw [if_neg (by omega), if_neg (by omega), if_neg (by omega), if_neg (by omega)]]; exact ⟨rfl, rfl⟩))
                  · refine y_iconst E dX3_readsCommand_113 ?_
                    refine y_goto (tgt := 118) E dX3_readsCommand_114 (by decide) ?_
                    refine y_ireturn E F rfl rfl dX3_readsCommand_118 (by omega) (by omega) (by first
                        | (have eN : cmdT T = numT (advT (cm0 T)) := by unfold cmdT; rw [if_neg (by omega), if_neg (by omega), if_neg (by omega), if_pos (by omega)]
                           rw [eN, h110]; exact ⟨rfl, rfl⟩)
                        | (have e103 := takT_f h103; have n103 : chT T (T 22 0) ≠ 78 := e103.2; rw [e103.1, show cmdT T = (false, cm0 T) from by unfold cmdT; rw [if_neg (by omega), if_neg (by omega), if_neg (by omega), if_neg (by omega)]]; exact ⟨rfl, rfl⟩))
              · have ee := takT_t h89
                have ec : chT T (T 22 0) = 80 := ee.2
                rw [ee.1]
                first | refine y_ald_n E dX3_readsCommand_92 (by rfl) ?_ | refine y_aload_n E dX3_readsCommand_92 (by rfl) ?_
                refine y_callV E dX3_readsCommand_93 lk_X3_265 (m_readsPattern hA ?_) (by rfl) (m_o hA _ _) rfl (by decide) (by omega) (by omega) rfl (Nat.le_of_ble_eq_true rfl) ?_ (fun _ _ _ h => h.elim)
                · exact h1 (by omega)
                rintro _ _ ⟨rfl, rfl⟩
                try simp (decide := true) only [upN_s, upN_n, upN_upN, upN_id, remT_5, remT_8]
                refine y_ireturn E F rfl (nar_b _) dX3_readsCommand_96 (by omega) (by omega) (by rw [show cmdT T = patT (advT (cm0 T)) from by unfold cmdT; rw [if_neg (by omega), if_neg (by omega), if_pos (by omega)]]; exact ⟨rfl, rfl⟩)
            · have ee := takT_t h75
              have ec : chT T (T 22 0) = 70 := ee.2
              rw [ee.1]
              first | refine y_ald_n E dX3_readsCommand_78 (by rfl) ?_ | refine y_aload_n E dX3_readsCommand_78 (by rfl) ?_
              refine y_callV E dX3_readsCommand_79 lk_X3_262 (m_readsFog hA ?_) (by rfl) (m_o hA _ _) rfl (by decide) (by omega) (by omega) rfl (Nat.le_of_ble_eq_true rfl) ?_ (fun _ _ _ h => h.elim)
              · exact h1 (by omega)
              rintro _ _ ⟨rfl, rfl⟩
              try simp (decide := true) only [upN_s, upN_n, upN_upN, upN_id, remT_5, remT_8]
              refine y_ireturn E F rfl (nar_b _) dX3_readsCommand_82 (by omega) (by omega) (by rw [show cmdT T = fogT (advT (cm0 T)) from by unfold cmdT; rw [if_neg (by omega), if_pos (by omega)]]; exact ⟨rfl, rfl⟩)
          · first
              | (have ee := takT_t h59; have ec : chT T (T 22 0) = 83 := ee.2; rw [ee.1])
              | (have ee := takT_t h50; have ec : chT T (T 22 0) = 77 := ee.2; rw [ee.1])
              | (have ee := takT_t h41; have ec : chT T (T 22 0) = 66 := ee.2; rw [ee.1])
              | (have ee := takT_t h32; have ec : chT T (T 22 0) = 68 := ee.2; rw [ee.1])
              | (have ee := takT_t h23; have ec : chT T (T 22 0) = 76 := ee.2; rw [ee.1])
            first | refine y_ald_n E dX3_readsCommand_62 (by rfl) ?_ | refine y_aload_n E dX3_readsCommand_62 (by rfl) ?_
            refine y_bipush E dX3_readsCommand_63 (by decide) ?_
            refine y_callV E dX3_readsCommand_65 lk_X3_256 (m_readsDigit hA ?_ ?_) (by rfl) (m_o hA _ _) rfl (by decide) (by omega) (by omega) rfl (Nat.le_of_ble_eq_true rfl) ?_ (fun _ _ _ h => h.elim)
            · exact h1 (by omega)
            · omega
            rintro _ _ ⟨rfl, rfl⟩
            try simp (decide := true) only [upN_s, upN_n, upN_upN, upN_id, remT_5, remT_8]
            refine y_ireturn E F rfl (nar_b _) dX3_readsCommand_68 (by omega) (by omega) (by rw [show cmdT T = digT (advT (cm0 T)) 7 from by unfold cmdT; rw [if_pos (by omega)]]; exact ⟨rfl, rfl⟩)
theorem m_readsAll (hA : mA A) (hP : PI (upN (upN T 22 (fun _ => 0)) 23 (fun _ => 0))) : Ct_X3_readsAll Γ 5 0 0 [.ref (A 0)] (mH A T G) (fun v G' => v = some (.int (iI (b2i ((rdA T).1)))) ∧ G' = mH A ((rdA T).2) G) noX := by
  refine y_start (lv0 := [some (.ref (A 0)), none]) (nm := "readsAll") (own := RX3) (by decide +kernel) rfl rfl (by exact Nat.le_of_ble_eq_true rfl) (by rfl) ?_
  intro Z Q E F
  have tail : ∀ r : Bool × (Nat → Int → Int), r = alT T → PI r.2 → r.2 17 = T 17 → Y Γ Z 0 0 Q (mH A r.2 G) 72 [some (.ref (A 0)), some (.int (iI (b2i r.1)))] [] := by
    intro r hr hPr h17
    have e17 : r.2 17 0 = T 17 0 := by rw [h17]
    have ha := hPr.1
    have hb := hPr.2.1
    refine y_iload_n E dX3_readsAll_72 (by rfl) ?_
    refine y_ifb_eq (tgt := 91) E dX3_readsAll_73 (by decide) (fun h73 => ?_) (fun h73 => ?_)
    · refine y_iconst E dX3_readsAll_91 ?_
      refine y_istore_n (j := 1) E dX3_readsAll_92 rfl (Nat.le_of_ble_eq_true rfl) ?_
      first | refine y_ald_n E dX3_readsAll_93 (by rfl) ?_ | refine y_aload_n E dX3_readsAll_93 (by rfl) ?_
      refine y_iconst E dX3_readsAll_94 ?_
      refine y_put E dX3_readsAll_95 fl_X3_231_X3 fw_X3_17 rfl (by rfl) (m_o hA _ _) (Nat.le_of_ble_eq_true rfl) ?_
      refine y_heap (m_p17 hA) ?_
      refine y_iload_n E dX3_readsAll_98 (by rfl) ?_
      refine y_if_ne (tgt := 110) E dX3_readsAll_99 (by decide) (by decide) (fun h => absurd h (by decide)) (fun _ => ?_)
      first | refine y_ald_n E dX3_readsAll_102 (by rfl) ?_ | refine y_aload_n E dX3_readsAll_102 (by rfl) ?_
      first | refine y_ald_n E dX3_readsAll_103 (by rfl) ?_ | refine y_aload_n E dX3_readsAll_103 (by rfl) ?_
      refine y_get E dX3_readsAll_104 fl_X3_247_X3 (m_o hA _ _) (by rfl) ?_
      try simp (decide := true) only [upN_s, upN_n, upN_upN, upN_id, remT_5, remT_8]
      refine y_put E dX3_readsAll_107 fl_X3_47_X3 fw_X3_24 rfl (by rfl) (m_o hA _ _) (Nat.le_of_ble_eq_true rfl) ?_
      refine y_heap (m_p24 hA) ?_
      refine y_iload_n E dX3_readsAll_110 (by rfl) ?_
      refine y_ireturn E F rfl rfl dX3_readsAll_111 (by omega) (by omega) (by first
          | (rw [show rdA T = (true, upN r.2 17 (fun _ => 0)) from by unfold rdA; rw [← hr, if_pos ⟨h73, by omega⟩]]; exact ⟨rfl, rfl⟩)
          | (rw [show rdA T = (false, upN (upN r.2 17 (fun _ => 0)) 24 (fun _ => r.2 22 0)) from by unfold rdA; rw [← hr, if_neg (fun q => by omega)]]; exact ⟨rfl, rfl⟩)
          | (rw [show rdA T = (false, upN (upN r.2 17 (fun _ => 0)) 24 (fun _ => r.2 22 0)) from by unfold rdA; rw [← hr, if_neg (by rw [h73]; simp)]]; exact ⟨rfl, rfl⟩))
    · first | refine y_ald_n E dX3_readsAll_76 (by rfl) ?_ | refine y_aload_n E dX3_readsAll_76 (by rfl) ?_
      refine y_get E dX3_readsAll_77 fl_X3_247_X3 (m_o hA _ _) (by rfl) ?_
      try simp (decide := true) only [upN_s, upN_n, upN_upN, upN_id, remT_5, remT_8]
      first | refine y_ald_n E dX3_readsAll_80 (by rfl) ?_ | refine y_aload_n E dX3_readsAll_80 (by rfl) ?_
      refine y_get E dX3_readsAll_81 fl_X3_231_X3 (m_o hA _ _) (by rfl) ?_
      try simp (decide := true) only [upN_s, upN_n, upN_upN, upN_id, remT_5, remT_8]
      refine y_icmp_ne (tgt := 91) E dX3_readsAll_84 (by decide) (by omega) (by omega) (fun h84 => ?_) (fun h84 => ?_)
      · refine y_iconst E dX3_readsAll_91 ?_
        refine y_istore_n (j := 1) E dX3_readsAll_92 rfl (Nat.le_of_ble_eq_true rfl) ?_
        first | refine y_ald_n E dX3_readsAll_93 (by rfl) ?_ | refine y_aload_n E dX3_readsAll_93 (by rfl) ?_
        refine y_iconst E dX3_readsAll_94 ?_
        refine y_put E dX3_readsAll_95 fl_X3_231_X3 fw_X3_17 rfl (by rfl) (m_o hA _ _) (Nat.le_of_ble_eq_true rfl) ?_
        refine y_heap (m_p17 hA) ?_
        refine y_iload_n E dX3_readsAll_98 (by rfl) ?_
        refine y_if_ne (tgt := 110) E dX3_readsAll_99 (by decide) (by decide) (fun h => absurd h (by decide)) (fun _ => ?_)
        first | refine y_ald_n E dX3_readsAll_102 (by rfl) ?_ | refine y_aload_n E dX3_readsAll_102 (by rfl) ?_
        first | refine y_ald_n E dX3_readsAll_103 (by rfl) ?_ | refine y_aload_n E dX3_readsAll_103 (by rfl) ?_
        refine y_get E dX3_readsAll_104 fl_X3_247_X3 (m_o hA _ _) (by rfl) ?_
        try simp (decide := true) only [upN_s, upN_n, upN_upN, upN_id, remT_5, remT_8]
        refine y_put E dX3_readsAll_107 fl_X3_47_X3 fw_X3_24 rfl (by rfl) (m_o hA _ _) (Nat.le_of_ble_eq_true rfl) ?_
        refine y_heap (m_p24 hA) ?_
        refine y_iload_n E dX3_readsAll_110 (by rfl) ?_
        refine y_ireturn E F rfl rfl dX3_readsAll_111 (by omega) (by omega) (by first
            | (rw [show rdA T = (true, upN r.2 17 (fun _ => 0)) from by unfold rdA; rw [← hr, if_pos ⟨h73, by omega⟩]]; exact ⟨rfl, rfl⟩)
            | (rw [show rdA T = (false, upN (upN r.2 17 (fun _ => 0)) 24 (fun _ => r.2 22 0)) from by unfold rdA; rw [← hr, if_neg (fun q => by omega)]]; exact ⟨rfl, rfl⟩)
            | (rw [show rdA T = (false, upN (upN r.2 17 (fun _ => 0)) 24 (fun _ => r.2 22 0)) from by unfold rdA; rw [← hr, if_neg (by rw [h73]; simp)]]; exact ⟨rfl, rfl⟩))
      · refine y_iconst E dX3_readsAll_87 ?_
        refine y_goto (tgt := 92) E dX3_readsAll_88 (by decide) ?_
        refine y_istore_n (j := 1) E dX3_readsAll_92 rfl (Nat.le_of_ble_eq_true rfl) ?_
        first | refine y_ald_n E dX3_readsAll_93 (by rfl) ?_ | refine y_aload_n E dX3_readsAll_93 (by rfl) ?_
        refine y_iconst E dX3_readsAll_94 ?_
        refine y_put E dX3_readsAll_95 fl_X3_231_X3 fw_X3_17 rfl (by rfl) (m_o hA _ _) (Nat.le_of_ble_eq_true rfl) ?_
        refine y_heap (m_p17 hA) ?_
        refine y_iload_n E dX3_readsAll_98 (by rfl) ?_
        refine y_if_ne (tgt := 110) E dX3_readsAll_99 (by decide) (by decide) (fun _ => ?_) (fun h => absurd h (by decide))
        refine y_iload_n E dX3_readsAll_110 (by rfl) ?_
        refine y_ireturn E F rfl rfl dX3_readsAll_111 (by omega) (by omega) (by first
            | (rw [show rdA T = (true, upN r.2 17 (fun _ => 0)) from by unfold rdA; rw [← hr, if_pos ⟨h73, by omega⟩]]; exact ⟨rfl, rfl⟩)
            | (rw [show rdA T = (false, upN (upN r.2 17 (fun _ => 0)) 24 (fun _ => r.2 22 0)) from by unfold rdA; rw [← hr, if_neg (fun q => by omega)]]; exact ⟨rfl, rfl⟩)
            | (rw [show rdA T = (false, upN (upN r.2 17 (fun _ => 0)) 24 (fun _ => r.2 22 0)) from by unfold rdA; rw [← hr, if_neg (by rw [h73]; simp)]]; exact ⟨rfl, rfl⟩))
  have loop : ∀ (f : Nat) (r : Bool × (Nat → Int → Int)), allF f r = alT T → PI r.2 → PK r.2 → r.2 17 = T 17 → 60 - r.2 22 0 < f → Y Γ Z 0 0 Q (mH A r.2 G) 33 [some (.ref (A 0)), some (.int (iI (b2i r.1)))] [] := by
    intro f
    induction f with
    | zero =>
      intro r hfin hPr hk h17 hf
      exfalso
      have ha := hPr.1
      have hb := hPr.2.1
      omega
    | succ f ih =>
      intro r hfin hPr hk h17 hf
      simp only [allF] at hfin
      have ha := hPr.1
      have hb := hPr.2.1
      have hU := PI_tak hPr (c := 59) (by omega)
      refine y_iload_n E dX3_readsAll_33 (by rfl) ?_
      refine y_ifb_eq (tgt := 72) E dX3_readsAll_34 (by decide) (fun h34 => ?_) (fun h34 => ?_)
      · first
          | (have e43 := takT_f h43; rw [if_neg (by rw [h43]; simp)] at hfin; rw [e43.1]; exact tail r hfin hPr h17)
          | (rw [if_neg (by rw [h34]; simp)] at hfin; exact tail r hfin hPr h17)
      · first | refine y_ald_n E dX3_readsAll_37 (by rfl) ?_ | refine y_aload_n E dX3_readsAll_37 (by rfl) ?_
        refine y_bipush E dX3_readsAll_38 (by decide) ?_
        refine y_callV E dX3_readsAll_40 lk_X3_259 (m_takes hA ?_ ?_) (by rfl) (m_o hA _ _) rfl (by decide) (by omega) (by omega) rfl (Nat.le_of_ble_eq_true rfl) ?_ (fun _ _ _ h => h.elim)
        · exact hPr
        · omega
        rintro _ _ ⟨rfl, rfl⟩
        try simp (decide := true) only [upN_s, upN_n, upN_upN, upN_id, remT_5, remT_8]
        refine y_ifb_eq (tgt := 72) E dX3_readsAll_43 (by decide) (fun h43 => ?_) (fun h43 => ?_)
        · first
            | (have e43 := takT_f h43; rw [if_neg (by rw [h43]; simp)] at hfin; rw [e43.1]; exact tail r hfin hPr h17)
            | (rw [if_neg (by rw [h34]; simp)] at hfin; exact tail r hfin hPr h17)
        · first | refine y_ald_n E dX3_readsAll_46 (by rfl) ?_ | refine y_aload_n E dX3_readsAll_46 (by rfl) ?_
          refine y_callV E dX3_readsAll_47 lk_X3_271 (m_readsCommand hA ?_) (by rfl) (m_o hA _ _) rfl (by decide) (by omega) (by omega) rfl (Nat.le_of_ble_eq_true rfl) ?_ (fun _ _ _ h => h.elim)
          · exact hU
          rintro _ _ ⟨rfl, rfl⟩
          try simp (decide := true) only [upN_s, upN_n, upN_upN, upN_id, remT_5, remT_8]
          refine y_istore_n (j := 1) E dX3_readsAll_50 rfl (Nat.le_of_ble_eq_true rfl) ?_
          first | refine y_ald_n E dX3_readsAll_51 (by rfl) ?_ | refine y_aload_n E dX3_readsAll_51 (by rfl) ?_
          refine y_dup E dX3_readsAll_52 rfl ?_
          refine y_get E dX3_readsAll_53 fl_X3_253_X3 (m_o hA _ _) (by rfl) ?_
          try simp (decide := true) only [upN_s, upN_n, upN_upN, upN_id, remT_5, remT_8]
          refine y_iload_n E dX3_readsAll_56 (by rfl) ?_
          refine y_ifb_eq (tgt := 64) E dX3_readsAll_57 (by decide) (fun h57 => ?_) (fun h57 => ?_)
          · refine y_iconst E dX3_readsAll_64 ?_
            refine y_iadd E dX3_readsAll_65 ?_
            refine y_put E dX3_readsAll_66 fl_X3_253_X3 fw_X3_23 rfl (by rfl) (m_o hA _ _) (Nat.le_of_ble_eq_true rfl) ?_
            refine y_heap (m_p23 hA) ?_
            refine y_goto (tgt := 33) E dX3_readsAll_69 (by decide) ?_
            rw [if_pos ⟨h34, h43⟩] at hfin
            have e43 := takT_t h43
            have hU23 : (takT r.2 59).2 23 0 = r.2 23 0 := by rw [e43.1]; rfl
            have hU22 : (takT r.2 59).2 22 0 = r.2 22 0 + 1 := by rw [e43.1]; rfl
            have hU17 : (takT r.2 59).2 17 = r.2 17 := by rw [e43.1]; rfl
            unfold PK at hk
            obtain ⟨s1, s2, s3, s4, s5⟩ := stpT_ok hU (by omega)
            refine y_heap (show _ = mH A (stpT (takT r.2 59).2).2 G from by unfold stpT; first | rw [if_pos h57] | rw [if_neg (by rw [h57]; decide)]) ?_
            exact ih (stpT (takT r.2 59).2) hfin s1 s2 (s4.trans (hU17.trans h17)) (by omega)
          · refine y_iconst E dX3_readsAll_60 ?_
            refine y_goto (tgt := 65) E dX3_readsAll_61 (by decide) ?_
            refine y_iadd E dX3_readsAll_65 ?_
            refine y_put E dX3_readsAll_66 fl_X3_253_X3 fw_X3_23 rfl (by rfl) (m_o hA _ _) (Nat.le_of_ble_eq_true rfl) ?_
            refine y_heap (m_p23 hA) ?_
            refine y_goto (tgt := 33) E dX3_readsAll_69 (by decide) ?_
            rw [if_pos ⟨h34, h43⟩] at hfin
            have e43 := takT_t h43
            have hU23 : (takT r.2 59).2 23 0 = r.2 23 0 := by rw [e43.1]; rfl
            have hU22 : (takT r.2 59).2 22 0 = r.2 22 0 + 1 := by rw [e43.1]; rfl
            have hU17 : (takT r.2 59).2 17 = r.2 17 := by rw [e43.1]; rfl
            unfold PK at hk
            obtain ⟨s1, s2, s3, s4, s5⟩ := stpT_ok hU (by omega)
            refine y_heap (show _ = mH A (stpT (takT r.2 59).2).2 G from by unfold stpT; first | rw [if_pos h57] | rw [if_neg (by rw [h57]; decide)]) ?_
            exact ih (stpT (takT r.2 59).2) hfin s1 s2 (s4.trans (hU17.trans h17)) (by omega)
  have hP22 : 3 * (upN (upN T 22 (fun _ => 0)) 23 (fun _ => 0)) 23 0 ≤ (upN (upN T 22 (fun _ => 0)) 23 (fun _ => 0)) 22 0 := by show (3 : Int) * 0 ≤ 0; omega
  obtain ⟨s1, s2, s3, s4, s5⟩ := stpT_ok hP hP22
  first | refine y_ald_n E dX3_readsAll_0 (by rfl) ?_ | refine y_aload_n E dX3_readsAll_0 (by rfl) ?_
  refine y_iconst E dX3_readsAll_1 ?_
  refine y_put E dX3_readsAll_2 fl_X3_247_X3 fw_X3_22 rfl (by rfl) (m_o hA _ _) (Nat.le_of_ble_eq_true rfl) ?_
  refine y_heap (m_p22 hA) ?_
  first | refine y_ald_n E dX3_readsAll_5 (by rfl) ?_ | refine y_aload_n E dX3_readsAll_5 (by rfl) ?_
  refine y_iconst E dX3_readsAll_6 ?_
  refine y_put E dX3_readsAll_7 fl_X3_253_X3 fw_X3_23 rfl (by rfl) (m_o hA _ _) (Nat.le_of_ble_eq_true rfl) ?_
  refine y_heap (m_p23 hA) ?_
  first | refine y_ald_n E dX3_readsAll_10 (by rfl) ?_ | refine y_aload_n E dX3_readsAll_10 (by rfl) ?_
  refine y_callV E dX3_readsAll_11 lk_X3_271 (m_readsCommand hA ?_) (by rfl) (m_o hA _ _) rfl (by decide) (by omega) (by omega) rfl (Nat.le_of_ble_eq_true rfl) ?_ (fun _ _ _ h => h.elim)
  · exact hP
  rintro _ _ ⟨rfl, rfl⟩
  try simp (decide := true) only [upN_s, upN_n, upN_upN, upN_id, remT_5, remT_8]
  refine y_istore_n (j := 1) E dX3_readsAll_14 rfl (Nat.le_of_ble_eq_true rfl) ?_
  first | refine y_ald_n E dX3_readsAll_15 (by rfl) ?_ | refine y_aload_n E dX3_readsAll_15 (by rfl) ?_
  refine y_dup E dX3_readsAll_16 rfl ?_
  refine y_get E dX3_readsAll_17 fl_X3_253_X3 (m_o hA _ _) (by rfl) ?_
  try simp (decide := true) only [upN_s, upN_n, upN_upN, upN_id, remT_5, remT_8]
  refine y_iload_n E dX3_readsAll_20 (by rfl) ?_
  refine y_ifb_eq (tgt := 28) E dX3_readsAll_21 (by decide) (fun h21 => ?_) (fun h21 => ?_)
  · refine y_iconst E dX3_readsAll_28 ?_
    refine y_iadd E dX3_readsAll_29 ?_
    refine y_put E dX3_readsAll_30 fl_X3_253_X3 fw_X3_23 rfl (by rfl) (m_o hA _ _) (Nat.le_of_ble_eq_true rfl) ?_
    refine y_heap (m_p23 hA) ?_
    refine y_heap (show _ = mH A (stpT (upN (upN T 22 (fun _ => 0)) 23 (fun _ => 0))).2 G from by unfold stpT; first | rw [if_pos h21] | rw [if_neg (by rw [h21]; decide)]) ?_
    exact loop 61 (stpT (upN (upN T 22 (fun _ => 0)) 23 (fun _ => 0))) (by unfold alT; rw [opq_eq]) s1 s2 s4 (by have := s1.2.1; omega)
  · refine y_iconst E dX3_readsAll_24 ?_
    refine y_goto (tgt := 29) E dX3_readsAll_25 (by decide) ?_
    refine y_iadd E dX3_readsAll_29 ?_
    refine y_put E dX3_readsAll_30 fl_X3_253_X3 fw_X3_23 rfl (by rfl) (m_o hA _ _) (Nat.le_of_ble_eq_true rfl) ?_
    refine y_heap (m_p23 hA) ?_
    refine y_heap (show _ = mH A (stpT (upN (upN T 22 (fun _ => 0)) 23 (fun _ => 0))).2 G from by unfold stpT; first | rw [if_pos h21] | rw [if_neg (by rw [h21]; decide)]) ?_
    exact loop 61 (stpT (upN (upN T 22 (fun _ => 0)) 23 (fun _ => 0))) (by unfold alT; rw [opq_eq]) s1 s2 s4 (by have := s1.2.1; omega)
end Tw14
