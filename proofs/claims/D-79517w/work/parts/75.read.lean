/-! ===== the twin: commands are carried out ===== -/
section Rd
theorem lg_ok : ∀ t : Nat, t < 512 → ∀ n : Nat, n < 10 → (n = 0 ∨ 0 < t / 2 ^ n) → t / 2 ^ (n + 1) = 0 → Nat.log2 t = n := by decide +kernel
theorem lg_b : ∀ t : Nat, t < 512 → Nat.log2 t < 9 ∧ (4 ≤ t → 2 ≤ Nat.log2 t) ∧ (1 ≤ t → 2 ^ Nat.log2 t ≤ t ∧ t < 2 * 2 ^ Nat.log2 t) := by decide +kernel
noncomputable def lgS (t : Int) : Int := opq 19 (fun t : Int => ((Nat.log2 t.toNat : Nat) : Int)) t
theorem lgS_e (t : Int) : lgS t = ((Nat.log2 t.toNat : Nat) : Int) := by unfold lgS; rw [opq_eq]
theorem lgS_in {t : Int} (h : 0 ≤ t ∧ t ≤ 511) : 0 ≤ lgS t ∧ lgS t ≤ 8 := by
  have := (lg_b t.toNat (by omega)).1
  rw [lgS_e]
  omega
/-- signs of a pattern kept behind a leading 1 -/
noncomputable def sgO (t : Int) : Int := t - ((2 ^ (lgS t).toNat : Nat) : Int)
/-- is there no such thing as a command tells -/
def noneP (w : Int → Int) (c o t : Int) : Prop := c ≠ 70 ∧ ((c = 78 ∧ ¬ (1 ≤ o ∧ o ≤ 30)) ∨ (c ≠ 78 ∧ (¬ (0 ≤ o ∧ o ≤ w 10 - 1) ∨ (c = 80 ∧ ¬ patP (sgO t) (lgS t)))))
noncomputable def hinS (w : Int → Int) (c o t : Int) : Option (Int × Int) := if dB (noneP w c o t) = true then some (11, 0) else if c = 76 then whyLit w o else if c = 68 then whyDark w o else if c = 66 then whyBroken w o else if c = 77 then whyMended w o else if c = 83 then whyFitted w else none
noncomputable def doe0 (w : Int → Int) (c o t : Int) : Int → Int := if c = 76 then upI w (25 + 8 * o + 4) 1 else if c = 68 then upI w (25 + 8 * o + 4) 0 else if c = 66 then brkS w o else if c = 77 then upI w (25 + 8 * o + 5) 0 else if c = 83 then fitS w o else if c = 70 then upI w (3 + o) t else if c = 80 then patS w o (sgO t) (lgS t) else ngsS o w
noncomputable def doeS (w : Int → Int) (c o t : Int) : Int → Int := stlS (doe0 w c o t)
/-- a command as it is read -/
def ckP (c o t : Int) : Prop := ((c = 76 ∨ c = 68 ∨ c = 66 ∨ c = 77 ∨ c = 83) ∧ 0 ≤ o ∧ o ≤ 7) ∨ (c = 70 ∧ (0 ≤ o ∧ o ≤ 6) ∧ 0 ≤ t ∧ t ≤ 9) ∨ (c = 80 ∧ 0 ≤ o ∧ o ≤ 7) ∨ (c = 78 ∧ 0 ≤ o ∧ o ≤ 99)
theorem doe0_ok {w : Int → Int} (hS : SH w) (hU : UT w) (hL : LT w) (hLL : ∀ o, 0 ≤ o → o < w 10 → whyLit w o = none → 0 ≤ tw w o 3) {c o t : Int} (hk : ckP c o t) (ht : 0 ≤ t ∧ t ≤ 511) (hh : hinS w c o t = none) : SH (doe0 w c o t) ∧ UT (doe0 w c o t) ∧ LT (doe0 w c o t) := by
  have hn := hS.nt
  have hnn : ¬ noneP w c o t := by
    intro q
    unfold hinS at hh
    rw [if_pos (dB_t q)] at hh
    cases hh
  have hto : c ≠ 70 → c ≠ 78 → 0 ≤ o ∧ o ≤ w 10 - 1 := by
    intro h1 h2
    by_cases e : 0 ≤ o ∧ o ≤ w 10 - 1
    · exact e
    · exact absurd ⟨h1, Or.inr ⟨h2, Or.inl e⟩⟩ hnn
  unfold hinS at hh
  rw [if_neg (by rw [dB_f hnn]; decide)] at hh
  unfold doe0
  by_cases c1 : c = 76
  · rw [if_pos c1] at hh ⊢
    have ho := hto (by omega) (by omega)
    refine ⟨hS.t4 (by omega) (by omega), UT_up hU (by omega) ho.1, ?_⟩
    intro q q0 q1 q4
    have e3 : tw (upI w (25 + 8 * o + 4) 1) q 3 = tw w q 3 := upI_n _ (by omega)
    have e10 : upI w (25 + 8 * o + 4) 1 10 = w 10 := upI_n _ (by omega)
    rw [e10] at q1
    rw [e3]
    by_cases e : q = o
    · subst e
      exact hLL q q0 q1 hh
    · refine hL q q0 q1 ?_
      have e4 : tw (upI w (25 + 8 * o + 4) 1) q 4 = tw w q 4 := upI_n _ (by omega)
      rw [← e4]
      exact q4
  · rw [if_neg c1] at hh ⊢
    have lt0 : ∀ {k v : Int}, (∀ q, 0 ≤ q → q < w 10 → k ≠ 25 + 8 * q + 3 ∧ (k = 25 + 8 * q + 4 → v = 0)) → k ≠ 10 → LT (upI w k v) := by
      intro k v h1 h2
      refine LT_c (upI_n _ h2.symm) (fun q q0 q1 => ?_) hL
      refine ⟨upI_n _ (by have := (h1 q q0 q1).1; omega), fun q4 => ?_⟩
      by_cases e : k = 25 + 8 * q + 4
      · subst e
        unfold tw at q4
        rw [upI_s, (h1 q q0 q1).2 rfl] at q4
        omega
      · unfold tw at q4 ⊢
        rwa [upI_n _ (by omega)] at q4
    by_cases c2 : c = 68
    · rw [if_pos c2] at hh ⊢
      have ho := hto (by omega) (by omega)
      exact ⟨hS.t4 (by omega) (by omega), UT_up hU (by omega) ho.1, lt0 (fun q q0 q1 => ⟨by omega, fun _ => rfl⟩) (by omega)⟩
    · rw [if_neg c2] at hh ⊢
      by_cases c3 : c = 66
      · rw [if_pos c3] at hh ⊢
        have ho := hto (by omega) (by omega)
        refine ⟨hS.brk (by omega), UT.brk hU ho.1, ?_⟩
        refine LT_c (by unfold brkS; rw [upI_n _ (by omega), upI_n _ (by omega)]) (fun q q0 q1 => ?_) hL
        refine ⟨by unfold tw brkS; rw [upI_n _ (by omega), upI_n _ (by omega)], fun q4 => ?_⟩
        exact up4n (k := 25 + 8 * o + 5) (by omega) (up4 q4)
      · rw [if_neg c3] at hh ⊢
        by_cases c4 : c = 77
        · rw [if_pos c4] at hh ⊢
          have ho := hto (by omega) (by omega)
          exact ⟨hS.t5 (by omega) (by omega), UT_up hU (by omega) ho.1, lt0 (fun q q0 q1 => ⟨by omega, fun e => by omega⟩) (by omega)⟩
        · rw [if_neg c4] at hh ⊢
          by_cases c5 : c = 83
          · rw [if_pos c5] at hh ⊢
            have ho := hto (by omega) (by omega)
            have hns := hS.ns
            have h12 : 0 < w 12 := by
              have : w 12 ≠ 0 := fun e => by unfold whyFitted at hh; rw [if_pos e] at hh; cases hh
              omega
            refine ⟨hS.fit (by omega) h12, UT.fit hS hU (by omega) h12, ?_⟩
            have h2 := hS.t (t := o) ho.1 (by omega)
            have h3 := hS.sto (k := 0) (by omega) (by omega)
            simp only [Int.add_zero] at h3
            have key : ∀ q, q < 12 ∨ (25 ≤ q ∧ q < 89 ∧ q ≠ 25 + 8 * o + 3) → fitS w o q = w q := by
              intro q hq
              unfold fitS
              rw [upI_n _ (by omega), upI_n _ (by omega), fit0_n ⟨h12, hns.2⟩ (by omega) (by omega)]
            intro q q0 q1 q4
            rw [key 10 (by omega)] at q1
            by_cases e : q = o
            · subst e
              unfold tw fitS
              rw [upI_n _ (by omega), upI_s]
              omega
            · have e3 : tw (fitS w o) q 3 = tw w q 3 := key _ (by omega)
              have e4 : tw (fitS w o) q 4 = tw w q 4 := key _ (by omega)
              rw [e3]
              exact hL q q0 q1 (by rw [← e4]; exact q4)
          · rw [if_neg c5] at hh ⊢
            unfold ckP at hk
            by_cases c6 : c = 70
            · rw [if_pos c6]
              have ho : (0 ≤ o ∧ o ≤ 6) ∧ 0 ≤ t ∧ t ≤ 9 := by omega
              exact ⟨hS.up (fun _ _ => by unfold loB hiB; omega), UT_lo hU (by omega), lt0 (fun q q0 q1 => ⟨by omega, fun e => by omega⟩) (by omega)⟩
            · rw [if_neg c6]
              by_cases c7 : c = 80
              · rw [if_pos c7]
                have ho := hto (by omega) (by omega)
                have hp : patP (sgO t) (lgS t) := by
                  apply Classical.byContradiction
                  intro q
                  exact hnn ⟨c6, Or.inr ⟨by omega, Or.inr ⟨c7, q⟩⟩⟩
                refine ⟨hS.pat (by omega) hp, UT.pat hU ho.1 hp, ?_⟩
                refine LT_c (by unfold patS; rw [upI_n _ (by omega), upI_n _ (by omega)]) (fun q q0 q1 => ?_) hL
                refine ⟨by unfold tw patS; rw [upI_n _ (by omega), upI_n _ (by omega)], fun q4 => ?_⟩
                exact up4n (k := 25 + 8 * o + 6) (by omega) (up4n (k := 25 + 8 * o + 7) (by omega) q4)
              · rw [if_neg c7]
                exact ngs_all hS hU hL o (by omega)
end Rd
section Tw15
variable {Γ : yG} {A : Nat → Nat} {T : Nat → Int → Int} {G : yH}
set_option maxHeartbeats 4000000
theorem m_manySigns0 {t : Nat} (ht : t < 512) : Ct_X3_manySigns Γ 1 0 0 [.int (iI (t))] (G) (fun v G' => v = some (.int (iI ((Nat.log2 t : Nat)))) ∧ G' = G) noX := by
  refine y_start (lv0 := [some (.int (iI (t))), none]) (nm := "manySigns") (own := RX3) (by decide +kernel) rfl rfl (by exact Nat.le_of_ble_eq_true rfl) (by rfl) ?_
  intro Z Q E F
  have loop : ∀ n : Nat, n < 10 → (n = 0 ∨ 0 < t / 2 ^ n) → Y Γ Z 0 0 Q G 2 [some (.int (iI t)), some (.int (iI n))] [] := by
    refine loopDownN 9 ?_
    intro n ih h0 hj
    have hlt : t / 2 ^ n < 512 := Nat.lt_of_le_of_lt (Nat.div_le_self _ _) ht
    have hlg := lg_ok t ht n h0 hj
    have hle : t / 2 ^ (n + 1) ≤ t := Nat.div_le_self _ _
    have h9 : n = 9 → t / 2 ^ (n + 1) = 0 := fun e => by rw [e]; exact Nat.div_eq_of_lt (by omega)
    refine y_iload_n E dX3_manySigns_2 (by rfl) ?_
    refine y_iload_n E dX3_manySigns_3 (by rfl) ?_
    refine y_iconst E dX3_manySigns_4 ?_
    refine y_iadd E dX3_manySigns_5 ?_
    refine y_ishr E dX3_manySigns_6 (iI_shr (n + 1) (by omega) (by omega) (by omega)) ?_
    refine y_top (v' := .int (iI ((t / 2 ^ (n + 1) : Nat) : Int))) (by rw [Int.natCast_ediv]) ?_
    generalize hd : t / 2 ^ (n + 1) = d at hlg hle h9 ⊢
    refine y_if_le (tgt := 16) E dX3_manySigns_7 (by decide) (by omega) (fun h7 => ?_) (fun h7 => ?_)
    · refine y_iload_n E dX3_manySigns_16 (by rfl) ?_
      refine y_ireturn E F rfl rfl dX3_manySigns_17 (by omega) (by omega) ⟨rI (by rw [hlg (by omega)]), rfl⟩
    · refine y_iinc E dX3_manySigns_10 (by rfl) ?_
      refine y_goto (tgt := 2) E dX3_manySigns_13 (by decide) ?_
      exact ih (by omega) (by omega) (Or.inr (by omega))
  refine y_iconst E dX3_manySigns_0 ?_
  refine y_istore_n (j := 1) E dX3_manySigns_1 rfl (Nat.le_of_ble_eq_true rfl) ?_
  exact loop 0 (by omega) (Or.inl rfl)
theorem m_manySigns {t : Int} (ht : 0 ≤ t ∧ t ≤ 511) : Ct_X3_manySigns Γ 1 0 0 [.int (iI t)] G (fun v G' => v = some (.int (iI (lgS t))) ∧ G' = G) noX := by
  have := m_manySigns0 (Γ := Γ) (G := G) (t := t.toNat) (by omega)
  rw [show ((t.toNat : Nat) : Int) = t by omega] at this
  rw [lgS_e]
  exact this
theorem m_isNoneAt (hA : mA A) (hS : SH (T 5)) {k : Int} (hk : 0 ≤ k ∧ k < 32) (hc : -1 ≤ T 19 k ∧ T 19 k ≤ 126) (ho : 0 ≤ T 20 k ∧ T 20 k ≤ 99) (ht : 0 ≤ T 21 k ∧ T 21 k ≤ 511) : Ct_X3_isNoneAt Γ 3 0 0 [.ref (A 0), .int (iI (k))] (mH A T G) (fun v G' => v = some (.int (iI (b2i (dB (noneP (T 5) (T 19 k) (T 20 k) (T 21 k)))))) ∧ G' = mH A T G) noX := by
  refine y_start (lv0 := [some (.ref (A 0)), some (.int (iI (k))), none]) (nm := "isNoneAt") (own := RX3) (by decide +kernel) rfl rfl (by exact Nat.le_of_ble_eq_true rfl) (by rfl) ?_
  intro Z Q E F
  have hlg := lgS_in ht
  have hpw : 2 ^ (lgS (T 21 k)).toNat < 512 := Nat.pow_lt_pow_right (n := 9) (by decide) (by omega)
  first | refine y_ald_n E dX3_isNoneAt_0 (by rfl) ?_ | refine y_aload_n E dX3_isNoneAt_0 (by rfl) ?_
  refine y_get E dX3_isNoneAt_1 fl_X3_38_X3 (m_o hA _ _) (by rfl) ?_
  refine y_iload_n E dX3_isNoneAt_4 (by rfl) ?_
  refine y_iald E dX3_isNoneAt_5 (m_r19 hA _ _) (by omega) ?_
  refine y_bipush E dX3_isNoneAt_6 (by decide) ?_
  refine y_icmp_ne (tgt := 13) E dX3_isNoneAt_8 (by decide) (by omega) (by omega) (fun h8 => ?_) (fun h8 => ?_)
  · first | refine y_ald_n E dX3_isNoneAt_13 (by rfl) ?_ | refine y_aload_n E dX3_isNoneAt_13 (by rfl) ?_
    refine y_get E dX3_isNoneAt_14 fl_X3_38_X3 (m_o hA _ _) (by rfl) ?_
    refine y_iload_n E dX3_isNoneAt_17 (by rfl) ?_
    refine y_iald E dX3_isNoneAt_18 (m_r19 hA _ _) (by omega) ?_
    refine y_bipush E dX3_isNoneAt_19 (by decide) ?_
    refine y_icmp_ne (tgt := 45) E dX3_isNoneAt_21 (by decide) (by omega) (by omega) (fun h21 => ?_) (fun h21 => ?_)
    · first | refine y_ald_n E dX3_isNoneAt_45 (by rfl) ?_ | refine y_aload_n E dX3_isNoneAt_45 (by rfl) ?_
      first | refine y_ald_n E dX3_isNoneAt_46 (by rfl) ?_ | refine y_aload_n E dX3_isNoneAt_46 (by rfl) ?_
      refine y_get E dX3_isNoneAt_47 fl_X3_41_X3 (m_o hA _ _) (by rfl) ?_
      refine y_iload_n E dX3_isNoneAt_50 (by rfl) ?_
      refine y_iald E dX3_isNoneAt_51 (m_r20 hA _ _) (by omega) ?_
      refine y_callV E dX3_isNoneAt_52 lk_X3_148 (m_isTower hA ?_ ?_) (by rfl) (m_o hA _ _) rfl (by decide) (by omega) (by omega) rfl (Nat.le_of_ble_eq_true rfl) ?_ (fun _ _ _ h => h.elim)
      · exact hS
      · first | omega | (simp (decide := true) only [upN_s, upN_n, upN_upN, upN_id, remT_5, remT_8] <;> omega)
      rintro _ _ ⟨rfl, rfl⟩
      refine y_ifd_ne (tgt := 60) E dX3_isNoneAt_55 (by decide) (fun h55 => ?_) (fun h55 => ?_)
      · first | refine y_ald_n E dX3_isNoneAt_60 (by rfl) ?_ | refine y_aload_n E dX3_isNoneAt_60 (by rfl) ?_
        refine y_get E dX3_isNoneAt_61 fl_X3_44_X3 (m_o hA _ _) (by rfl) ?_
        refine y_iload_n E dX3_isNoneAt_64 (by rfl) ?_
        refine y_iald E dX3_isNoneAt_65 (m_r21 hA _ _) (by omega) ?_
        refine y_callS E dX3_isNoneAt_66 lk_X3_274 (m_manySigns ?_) (by rfl) (by decide) (by omega) (by omega) rfl (Nat.le_of_ble_eq_true rfl) ?_ (fun _ _ _ h => h.elim)
        · first | omega | (simp (decide := true) only [upN_s, upN_n, upN_upN, upN_id, remT_5, remT_8] <;> omega)
        rintro _ _ ⟨rfl, rfl⟩
        refine y_istore_n (j := 2) E dX3_isNoneAt_69 rfl (Nat.le_of_ble_eq_true rfl) ?_
        first | refine y_ald_n E dX3_isNoneAt_70 (by rfl) ?_ | refine y_aload_n E dX3_isNoneAt_70 (by rfl) ?_
        refine y_get E dX3_isNoneAt_71 fl_X3_38_X3 (m_o hA _ _) (by rfl) ?_
        refine y_iload_n E dX3_isNoneAt_74 (by rfl) ?_
        refine y_iald E dX3_isNoneAt_75 (m_r19 hA _ _) (by omega) ?_
        refine y_bipush E dX3_isNoneAt_76 (by decide) ?_
        refine y_icmp_ne (tgt := 102) E dX3_isNoneAt_78 (by decide) (by omega) (by omega) (fun h78 => ?_) (fun h78 => ?_)
        · refine y_iconst E dX3_isNoneAt_102 ?_
          refine y_ireturn E F rfl rfl dX3_isNoneAt_103 (by omega) (by omega) ⟨(rF (by unfold noneP; first | omega | exact ⟨by omega, Or.inr ⟨by omega, Or.inr ⟨by omega, h95⟩⟩⟩ | (rintro ⟨q1, ⟨q2, q3⟩ | ⟨q2, q3 | ⟨q3, q4⟩⟩⟩ <;> first | omega | exact q4 h95))), rfl⟩
        · first | refine y_ald_n E dX3_isNoneAt_81 (by rfl) ?_ | refine y_aload_n E dX3_isNoneAt_81 (by rfl) ?_
          refine y_get E dX3_isNoneAt_82 fl_X3_44_X3 (m_o hA _ _) (by rfl) ?_
          refine y_iload_n E dX3_isNoneAt_85 (by rfl) ?_
          refine y_iald E dX3_isNoneAt_86 (m_r21 hA _ _) (by omega) ?_
          refine y_iconst E dX3_isNoneAt_87 ?_
          refine y_iload_n E dX3_isNoneAt_88 (by rfl) ?_
          refine y_ishl E dX3_isNoneAt_89 (tb_1shlI (by omega)) ?_
          refine y_isub E dX3_isNoneAt_90 ?_
          refine y_iload_n E dX3_isNoneAt_91 (by rfl) ?_
          refine y_callS E dX3_isNoneAt_92 lk_X3_151 (m_isPattern ?_ ?_) (by rfl) (by decide) (by omega) (by omega) rfl (Nat.le_of_ble_eq_true rfl) ?_ (fun _ _ _ h => h.elim)
          · (show inR (sgO (T 21 k)); unfold sgO; generalize 2 ^ (lgS (T 21 k)).toNat = p at hpw; constructor <;> omega)
          · omega
          rintro _ _ ⟨rfl, rfl⟩
          refine y_ifd_ne (tgt := 102) E dX3_isNoneAt_95 (by decide) (fun h95 => ?_) (fun h95 => ?_)
          · refine y_iconst E dX3_isNoneAt_102 ?_
            refine y_ireturn E F rfl rfl dX3_isNoneAt_103 (by omega) (by omega) ⟨(rF (by unfold noneP; first | omega | exact ⟨by omega, Or.inr ⟨by omega, Or.inr ⟨by omega, h95⟩⟩⟩ | (rintro ⟨q1, ⟨q2, q3⟩ | ⟨q2, q3 | ⟨q3, q4⟩⟩⟩ <;> first | omega | exact q4 h95))), rfl⟩
          · refine y_iconst E dX3_isNoneAt_98 ?_
            refine y_goto (tgt := 103) E dX3_isNoneAt_99 (by decide) ?_
            refine y_ireturn E F rfl rfl dX3_isNoneAt_103 (by omega) (by omega) ⟨(rT (by unfold noneP; first | omega | exact ⟨by omega, Or.inr ⟨by omega, Or.inr ⟨by omega, h95⟩⟩⟩ | (rintro ⟨q1, ⟨q2, q3⟩ | ⟨q2, q3 | ⟨q3, q4⟩⟩⟩ <;> first | omega | exact q4 h95))), rfl⟩
      · refine y_iconst E dX3_isNoneAt_58 ?_
        refine y_ireturn E F rfl rfl dX3_isNoneAt_59 (by omega) (by omega) ⟨(rT (by unfold noneP; first | omega | exact ⟨by omega, Or.inr ⟨by omega, Or.inr ⟨by omega, h95⟩⟩⟩ | (rintro ⟨q1, ⟨q2, q3⟩ | ⟨q2, q3 | ⟨q3, q4⟩⟩⟩ <;> first | omega | exact q4 h95))), rfl⟩
    · first | refine y_ald_n E dX3_isNoneAt_24 (by rfl) ?_ | refine y_aload_n E dX3_isNoneAt_24 (by rfl) ?_
      refine y_get E dX3_isNoneAt_25 fl_X3_41_X3 (m_o hA _ _) (by rfl) ?_
      refine y_iload_n E dX3_isNoneAt_28 (by rfl) ?_
      refine y_iald E dX3_isNoneAt_29 (m_r20 hA _ _) (by omega) ?_
      refine y_iconst E dX3_isNoneAt_30 ?_
      refine y_bipush E dX3_isNoneAt_31 (by decide) ?_
      refine y_callS E dX3_isNoneAt_33 lk_X3_77 (m_isBetween ?_ ?_ ?_) (by rfl) (by decide) (by omega) (by omega) rfl (Nat.le_of_ble_eq_true rfl) ?_ (fun _ _ _ h => h.elim)
      · first | omega | (simp (decide := true) only [upN_s, upN_n, upN_upN, upN_id, remT_5, remT_8] <;> omega)
      · first | omega | (simp (decide := true) only [upN_s, upN_n, upN_upN, upN_id, remT_5, remT_8] <;> omega)
      · first | omega | (simp (decide := true) only [upN_s, upN_n, upN_upN, upN_id, remT_5, remT_8] <;> omega)
      rintro _ _ ⟨rfl, rfl⟩
      refine y_ifd_ne (tgt := 43) E dX3_isNoneAt_36 (by decide) (fun h36 => ?_) (fun h36 => ?_)
      · refine y_iconst E dX3_isNoneAt_43 ?_
        refine y_ireturn E F rfl rfl dX3_isNoneAt_44 (by omega) (by omega) ⟨(rF (by unfold noneP; first | omega | exact ⟨by omega, Or.inr ⟨by omega, Or.inr ⟨by omega, h95⟩⟩⟩ | (rintro ⟨q1, ⟨q2, q3⟩ | ⟨q2, q3 | ⟨q3, q4⟩⟩⟩ <;> first | omega | exact q4 h95))), rfl⟩
      · refine y_iconst E dX3_isNoneAt_39 ?_
        refine y_goto (tgt := 44) E dX3_isNoneAt_40 (by decide) ?_
        refine y_ireturn E F rfl rfl dX3_isNoneAt_44 (by omega) (by omega) ⟨(rT (by unfold noneP; first | omega | exact ⟨by omega, Or.inr ⟨by omega, Or.inr ⟨by omega, h95⟩⟩⟩ | (rintro ⟨q1, ⟨q2, q3⟩ | ⟨q2, q3 | ⟨q3, q4⟩⟩⟩ <;> first | omega | exact q4 h95))), rfl⟩
  · refine y_iconst E dX3_isNoneAt_11 ?_
    refine y_ireturn E F rfl rfl dX3_isNoneAt_12 (by omega) (by omega) ⟨(rF (by unfold noneP; first | omega | exact ⟨by omega, Or.inr ⟨by omega, Or.inr ⟨by omega, h95⟩⟩⟩ | (rintro ⟨q1, ⟨q2, q3⟩ | ⟨q2, q3 | ⟨q3, q4⟩⟩⟩ <;> first | omega | exact q4 h95))), rfl⟩
theorem m_hindersAt (hA : mA A) (hS : SH (T 5)) (hU : UT (T 5)) {k : Int} (hk : 0 ≤ k ∧ k < 32) (hc : -1 ≤ T 19 k ∧ T 19 k ≤ 126) (ho : 0 ≤ T 20 k ∧ T 20 k ≤ 99) (ht : 0 ≤ T 21 k ∧ T 21 k ≤ 511) (hck : ckP (T 19 k) (T 20 k) (T 21 k)) : Ct_X3_hindersAt Γ 7 0 0 [.ref (A 0), .int (iI (k))] (mH A T G) (fun v G' => v = some (.int (iI (b2i (dB ((hinS (T 5) (T 19 k) (T 20 k) (T 21 k)).isSome = true))))) ∧ G' = mH A (hinO T (hinS (T 5) (T 19 k) (T 20 k) (T 21 k))) G) noX := by
  refine y_start (lv0 := [some (.ref (A 0)), some (.int (iI (k))), none]) (nm := "hindersAt") (own := RX3) (by decide +kernel) rfl rfl (by exact Nat.le_of_ble_eq_true rfl) (by rfl) ?_
  intro Z Q E F
  have hn := hS.nt
  have hto : ¬ noneP (T 5) (T 19 k) (T 20 k) (T 21 k) → T 19 k ≠ 70 → T 19 k ≠ 78 → 0 ≤ T 20 k ∧ T 20 k ≤ T 5 10 - 1 := by
    intro hnn h1 h2
    by_cases e : 0 ≤ T 20 k ∧ T 20 k ≤ T 5 10 - 1
    · exact e
    · exact absurd ⟨h1, Or.inr ⟨h2, Or.inl e⟩⟩ hnn
  first | refine y_ald_n E dX3_hindersAt_0 (by rfl) ?_ | refine y_aload_n E dX3_hindersAt_0 (by rfl) ?_
  refine y_iload_n E dX3_hindersAt_1 (by rfl) ?_
  refine y_callV E dX3_hindersAt_2 lk_X3_277 (m_isNoneAt hA ?_ ?_ ?_ ?_ ?_) (by rfl) (m_o hA _ _) rfl (by decide) (by omega) (by omega) rfl (Nat.le_of_ble_eq_true rfl) ?_ (fun _ _ _ h => h.elim)
  · exact hS
  · exact hk
  · exact hc
  · exact ho
  · exact ht
  rintro _ _ ⟨rfl, rfl⟩
  refine y_ifd_eq (tgt := 16) E dX3_hindersAt_5 (by decide) (fun h5 => ?_) (fun h5 => ?_)
  · first | refine y_ald_n E dX3_hindersAt_16 (by rfl) ?_ | refine y_aload_n E dX3_hindersAt_16 (by rfl) ?_
    refine y_get E dX3_hindersAt_17 fl_X3_41_X3 (m_o hA _ _) (by rfl) ?_
    refine y_iload_n E dX3_hindersAt_20 (by rfl) ?_
    refine y_iald E dX3_hindersAt_21 (m_r20 hA _ _) (by omega) ?_
    refine y_istore_n (j := 2) E dX3_hindersAt_22 rfl (Nat.le_of_ble_eq_true rfl) ?_
    first | refine y_ald_n E dX3_hindersAt_23 (by rfl) ?_ | refine y_aload_n E dX3_hindersAt_23 (by rfl) ?_
    refine y_get E dX3_hindersAt_24 fl_X3_38_X3 (m_o hA _ _) (by rfl) ?_
    refine y_iload_n E dX3_hindersAt_27 (by rfl) ?_
    refine y_iald E dX3_hindersAt_28 (m_r19 hA _ _) (by omega) ?_
    rcases (show T 19 k = 66 ∨ T 19 k = 68 ∨ T 19 k = 76 ∨ T 19 k = 77 ∨ T 19 k = 83 ∨ (T 19 k ≠ 66 ∧ T 19 k ≠ 68 ∧ T 19 k ≠ 76 ∧ T 19 k ≠ 77 ∧ T 19 k ≠ 83) by omega) with hs | hs | hs | hs | hs | hs
    · refine y_ls (tgt := 92) (off := 63) E dX3_hindersAt_29 (by omega) (by decide) (by show Op.lookupswitch.offset [(66, 63), (68, 57), (76, 51), (77, 69), (83, 75)] 80 (T 19 k) = 63; simp only [Op.lookupswitch.offset_cons, Op.lookupswitch.offset_nil]; rw [if_pos (by omega)]) (by decide) ?_
      have hto := hto h5 (by omega) (by omega)
      first | refine y_ald_n E dX3_hindersAt_92 (by rfl) ?_ | refine y_aload_n E dX3_hindersAt_92 (by rfl) ?_
      refine y_iload_n E dX3_hindersAt_93 (by rfl) ?_
      refine y_callV E dX3_hindersAt_94 lk_X3_180 (m_mayNotBreak hA ?_ ?_) (by rfl) (m_o hA _ _) rfl (by decide) (by omega) (by omega) rfl (Nat.le_of_ble_eq_true rfl) ?_ (fun _ _ _ h => h.elim)
      · exact hS
      · first | omega | (simp (decide := true) only [upN_s, upN_n, upN_upN, upN_id, remT_5, remT_8] <;> omega)
      rintro _ _ ⟨rfl, rfl⟩
      refine y_ireturn E F rfl (nar_b _) dX3_hindersAt_97 (by omega) (by omega) (by rw [show hinS (T 5) (T 19 k) (T 20 k) (T 21 k) = whyBroken (T 5) (T 20 k) from by unfold hinS; rw [if_neg (by rw [dB_f h5]; decide), if_neg (by omega), if_neg (by omega), if_pos hs]]; exact ⟨rfl, rfl⟩)
    · refine y_ls (tgt := 86) (off := 57) E dX3_hindersAt_29 (by omega) (by decide) (by show Op.lookupswitch.offset [(66, 63), (68, 57), (76, 51), (77, 69), (83, 75)] 80 (T 19 k) = 57; simp only [Op.lookupswitch.offset_cons, Op.lookupswitch.offset_nil]; rw [if_neg (by omega), if_pos (by omega)]) (by decide) ?_
      have hto := hto h5 (by omega) (by omega)
      first | refine y_ald_n E dX3_hindersAt_86 (by rfl) ?_ | refine y_aload_n E dX3_hindersAt_86 (by rfl) ?_
      refine y_iload_n E dX3_hindersAt_87 (by rfl) ?_
      refine y_callV E dX3_hindersAt_88 lk_X3_177 (m_mayNotDarken hA ?_ ?_) (by rfl) (m_o hA _ _) rfl (by decide) (by omega) (by omega) rfl (Nat.le_of_ble_eq_true rfl) ?_ (fun _ _ _ h => h.elim)
      · exact hS
      · first | omega | (simp (decide := true) only [upN_s, upN_n, upN_upN, upN_id, remT_5, remT_8] <;> omega)
      rintro _ _ ⟨rfl, rfl⟩
      refine y_ireturn E F rfl (nar_b _) dX3_hindersAt_91 (by omega) (by omega) (by rw [show hinS (T 5) (T 19 k) (T 20 k) (T 21 k) = whyDark (T 5) (T 20 k) from by unfold hinS; rw [if_neg (by rw [dB_f h5]; decide), if_neg (by omega), if_pos hs]]; exact ⟨rfl, rfl⟩)
    · refine y_ls (tgt := 80) (off := 51) E dX3_hindersAt_29 (by omega) (by decide) (by show Op.lookupswitch.offset [(66, 63), (68, 57), (76, 51), (77, 69), (83, 75)] 80 (T 19 k) = 51; simp only [Op.lookupswitch.offset_cons, Op.lookupswitch.offset_nil]; rw [if_neg (by omega), if_neg (by omega), if_pos (by omega)]) (by decide) ?_
      have hto := hto h5 (by omega) (by omega)
      first | refine y_ald_n E dX3_hindersAt_80 (by rfl) ?_ | refine y_aload_n E dX3_hindersAt_80 (by rfl) ?_
      refine y_iload_n E dX3_hindersAt_81 (by rfl) ?_
      refine y_callV E dX3_hindersAt_82 lk_X3_171 (m_mayNotLight hA ?_ ?_ ?_) (by rfl) (m_o hA _ _) rfl (by decide) (by omega) (by omega) rfl (Nat.le_of_ble_eq_true rfl) ?_ (fun _ _ _ h => h.elim)
      · exact hS
      · exact hU
      · first | omega | (simp (decide := true) only [upN_s, upN_n, upN_upN, upN_id, remT_5, remT_8] <;> omega)
      rintro _ _ ⟨rfl, rfl⟩
      refine y_ireturn E F rfl (nar_b _) dX3_hindersAt_85 (by omega) (by omega) (by rw [show hinS (T 5) (T 19 k) (T 20 k) (T 21 k) = whyLit (T 5) (T 20 k) from by unfold hinS; rw [if_neg (by rw [dB_f h5]; decide), if_pos hs]]; exact ⟨rfl, rfl⟩)
    · refine y_ls (tgt := 98) (off := 69) E dX3_hindersAt_29 (by omega) (by decide) (by show Op.lookupswitch.offset [(66, 63), (68, 57), (76, 51), (77, 69), (83, 75)] 80 (T 19 k) = 69; simp only [Op.lookupswitch.offset_cons, Op.lookupswitch.offset_nil]; rw [if_neg (by omega), if_neg (by omega), if_neg (by omega), if_pos (by omega)]) (by decide) ?_
      have hto := hto h5 (by omega) (by omega)
      first | refine y_ald_n E dX3_hindersAt_98 (by rfl) ?_ | refine y_aload_n E dX3_hindersAt_98 (by rfl) ?_
      refine y_iload_n E dX3_hindersAt_99 (by rfl) ?_
      refine y_callV E dX3_hindersAt_100 lk_X3_186 (m_mayNotMend hA ?_ ?_) (by rfl) (m_o hA _ _) rfl (by decide) (by omega) (by omega) rfl (Nat.le_of_ble_eq_true rfl) ?_ (fun _ _ _ h => h.elim)
      · exact hS
      · first | omega | (simp (decide := true) only [upN_s, upN_n, upN_upN, upN_id, remT_5, remT_8] <;> omega)
      rintro _ _ ⟨rfl, rfl⟩
      refine y_ireturn E F rfl (nar_b _) dX3_hindersAt_103 (by omega) (by omega) (by rw [show hinS (T 5) (T 19 k) (T 20 k) (T 21 k) = whyMended (T 5) (T 20 k) from by unfold hinS; rw [if_neg (by rw [dB_f h5]; decide), if_neg (by omega), if_neg (by omega), if_neg (by omega), if_pos hs]]; exact ⟨rfl, rfl⟩)
    · refine y_ls (tgt := 104) (off := 75) E dX3_hindersAt_29 (by omega) (by decide) (by show Op.lookupswitch.offset [(66, 63), (68, 57), (76, 51), (77, 69), (83, 75)] 80 (T 19 k) = 75; simp only [Op.lookupswitch.offset_cons, Op.lookupswitch.offset_nil]; rw [if_neg (by omega), if_neg (by omega), if_neg (by omega), if_neg (by omega), if_pos (by omega)]) (by decide) ?_
      first | refine y_ald_n E dX3_hindersAt_104 (by rfl) ?_ | refine y_aload_n E dX3_hindersAt_104 (by rfl) ?_
      refine y_callV E dX3_hindersAt_105 lk_X3_164 (m_mayNotFit hA ?_) (by rfl) (m_o hA _ _) rfl (by decide) (by omega) (by omega) rfl (Nat.le_of_ble_eq_true rfl) ?_ (fun _ _ _ h => h.elim)
      · exact hS
      rintro _ _ ⟨rfl, rfl⟩
      refine y_ireturn E F rfl (nar_b _) dX3_hindersAt_108 (by omega) (by omega) (by rw [show hinS (T 5) (T 19 k) (T 20 k) (T 21 k) = whyFitted (T 5) from by unfold hinS; rw [if_neg (by rw [dB_f h5]; decide), if_neg (by omega), if_neg (by omega), if_neg (by omega), if_neg (by omega), if_pos hs]]; exact ⟨rfl, rfl⟩)
    · refine y_ls (tgt := 109) (off := 80) E dX3_hindersAt_29 (by omega) (by decide) (by show Op.lookupswitch.offset [(66, 63), (68, 57), (76, 51), (77, 69), (83, 75)] 80 (T 19 k) = 80; simp only [Op.lookupswitch.offset_cons, Op.lookupswitch.offset_nil]; rw [if_neg (by omega), if_neg (by omega), if_neg (by omega), if_neg (by omega), if_neg (by omega)]) (by decide) ?_
      refine y_iconst E dX3_hindersAt_109 ?_
      refine y_ireturn E F rfl rfl dX3_hindersAt_110 (by omega) (by omega) (by rw [show hinS (T 5) (T 19 k) (T 20 k) (T 21 k) = none from by unfold hinS; rw [if_neg (by rw [dB_f h5]; decide), if_neg (by omega), if_neg (by omega), if_neg (by omega), if_neg (by omega), if_neg (by omega)]]; exact ⟨rF (by simp), rfl⟩)
  · first | refine y_ald_n E dX3_hindersAt_8 (by rfl) ?_ | refine y_aload_n E dX3_hindersAt_8 (by rfl) ?_
    refine y_bipush E dX3_hindersAt_9 (by decide) ?_
    refine y_iconst E dX3_hindersAt_11 ?_
    refine y_callV E dX3_hindersAt_12 lk_X3_132 (m_hinders hA) (by rfl) (m_o hA _ _) rfl (by decide) (by omega) (by omega) rfl (Nat.le_of_ble_eq_true rfl) ?_ (fun _ _ _ h => h.elim)
    rintro _ _ ⟨rfl, rfl⟩
    refine y_ireturn E F rfl (nar_b _) dX3_hindersAt_15 (by omega) (by omega) (by rw [show hinS (T 5) (T 19 k) (T 20 k) (T 21 k) = some (11, 0) from by unfold hinS; rw [if_pos (dB_t h5)]]; exact ⟨rB (by simp), rfl⟩)
end Tw15
