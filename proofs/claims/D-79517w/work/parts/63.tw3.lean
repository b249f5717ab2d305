/-! ===== the twin: what is asked of a row ===== -/
section Rw
/-- what going from 0 to just ahead of i costs -/
noncomputable def cF (w : Int → Int) (i : Int) : Int := sumI (fun p => 1 + w (3 + p / 10)) i
theorem cF_s {w : Int → Int} {i : Int} (h : 0 ≤ i) : cF w (i + 1) = cF w i + (1 + w (3 + i / 10)) := sumI_s h
noncomputable def costS (w : Int → Int) (a b : Int) : Int := if a < b then cF w (b + 1) - cF w (a + 1) else cF w a - cF w b
theorem SH.cFb {w : Int → Int} (h : SH w) : ∀ i, 0 ≤ i → (i ≤ 61 → i ≤ cF w i ∧ cF w i ≤ 10 * i) := by
  apply intUp
  · intro _
    have : cF w 0 = 0 := sumI_0 _
    omega
  · intro i h0 ih h1
    have h2 := h.fog (k := i / 10) (by omega) (by omega)
    have h3 := ih (by omega)
    rw [cF_s h0]
    omega
theorem SH.cost {w : Int → Int} (h : SH w) {a b : Int} (ha : 0 ≤ a ∧ a ≤ 60) (hb : 0 ≤ b ∧ b ≤ 60) : -700 ≤ costS w a b ∧ costS w a b ≤ 700 := by
  have h1 := h.cFb (b + 1) (by omega) (by omega)
  have h2 := h.cFb (a + 1) (by omega) (by omega)
  have h3 := h.cFb a (by omega) (by omega)
  have h4 := h.cFb b (by omega) (by omega)
  unfold costS
  split <;> omega
/-- does a tower reach a place -/
def rchP (w : Int → Int) (t p : Int) : Prop := 0 ≤ tw w t 3 ∧ (p = tw w t 0 ∨ tw w t 1 = 0 ∨ (tw w t 1 = 1 ∧ p < tw w t 0) ∨ (tw w t 1 ≠ 0 ∧ tw w t 1 ≠ 1 ∧ tw w t 0 < p)) ∧ costS w (tw w t 0) p ≤ powS w t
/-- the signs of a tower are a pattern -/
def PO (w : Int → Int) (t : Int) : Prop := 2 ≤ tw w t 7 ∧ tw w t 7 ≤ 8 ∧ 0 ≤ tw w t 6 ∧ (tw w t 6).toNat < 2 ^ (tw w t 7).toNat
def UT (w : Int → Int) : Prop := ∀ t, 0 ≤ t → t < w 10 → PO w t
def alikeP (w : Int → Int) (a b : Int) : Prop := tw w a 7 = tw w b 7 ∧ likeS (tw w a 6).toNat (tw w b 6).toNat (tw w a 7).toNat = true
theorem alike_iff {w : Int → Int} {a b : Int} {s o m : Nat} (hs : tw w a 6 = s) (ho : tw w b 6 = o) (hm : tw w a 7 = m) (ha : PO w a) (hb : PO w b) : alikeP w a b ↔ tw w a 7 = tw w b 7 ∧ (dtiP s o m ∨ dtiP (bk0 s m m) o m) := by
  obtain ⟨a1, a2, a3, a4⟩ := ha
  obtain ⟨b1, b2, b3, b4⟩ := hb
  unfold alikeP
  rw [hs] at a4 ⊢
  rw [ho] at b4 ⊢
  rw [hm] at a1 a2 a4 ⊢
  simp only [Int.toNat_natCast] at *
  by_cases e : (m : Int) = tw w b 7
  · rw [← e] at b4
    simp only [Int.toNat_natCast] at b4
    rw [like_dti ⟨by omega, by omega⟩ a4 b4]
  · exact ⟨fun h => absurd h.1 e, fun h => absurd h.1 e⟩
theorem alike_sym {w : Int → Int} {a b : Int} (ha : PO w a) : alikeP w a b ↔ alikeP w b a := by
  have key : ∀ {x y : Int}, 2 ≤ tw w x 7 ∧ tw w x 7 ≤ 8 → alikeP w x y → alikeP w y x := by
    intro x y hx h
    refine ⟨h.1.symm, ?_⟩
    rw [← h.1]
    exact like_sym1 ⟨by omega, by omega⟩ h.2
  exact ⟨key ⟨ha.1, ha.2.1⟩, fun h => key (x := b) (by have := h.1; have h1 := ha.1; have h2 := ha.2.1; omega) h⟩
/-- can two towers be mistaken -/
def mistP (w : Int → Int) (a b : Int) : Prop := alikeP w a b ∧ ∃ p, 0 ≤ p ∧ p < 61 ∧ rchP w a p ∧ rchP w b p
theorem mist_sym {w : Int → Int} {a b : Int} (ha : PO w a) : mistP w a b ↔ mistP w b a := by
  unfold mistP
  rw [alike_sym ha]
  constructor <;> rintro ⟨h, p, h1, h2, h3, h4⟩ <;> exact ⟨h, p, h1, h2, h4, h3⟩
/-- two lit towers that can be mistaken -/
def prP (w : Int → Int) (a b : Int) : Prop := tw w a 4 = 1 ∧ tw w b 4 = 1 ∧ mistP w a b
/-- the later one of the first pair that can be mistaken; -1: none -/
def misR (w : Int → Int) (r : Int) : Prop := (r = -1 ∧ ∀ j k, 0 ≤ j → j < k → k < w 10 → ¬ prP w j k) ∨ (∃ a, 0 ≤ a ∧ a < r ∧ r < w 10 ∧ prP w a r ∧ (∀ k, a < k → k < r → ¬ prP w a k) ∧ ∀ j k, 0 ≤ j → j < a → j < k → k < w 10 → ¬ prP w j k)
theorem misR_u {w : Int → Int} {r s : Int} (h : misR w r) (h' : misR w s) : r = s := by
  rcases h with ⟨h1, h2⟩ | ⟨a, h1, h2, h3, h4, h5, h6⟩
  · rcases h' with ⟨g1, g2⟩ | ⟨b, g1, g2, g3, g4, g5, g6⟩
    · omega
    · exact absurd g4 (h2 b s g1 g2 g3)
  · rcases h' with ⟨g1, g2⟩ | ⟨b, g1, g2, g3, g4, g5, g6⟩
    · exact absurd h4 (g2 a r h1 h2 h3)
    · by_cases e : a < b
      · exact absurd h4 (g6 a r h1 e h2 h3)
      · by_cases e2 : b < a
        · exact absurd g4 (h6 b s g1 e2 g2 g3)
        · have : a = b := by omega
          subst this
          by_cases e3 : r < s
          · exact absurd h4 (g5 r h2 e3)
          · by_cases e4 : s < r
            · exact absurd g4 (h5 s g2 e4)
            · omega
/-- the one of that kind, if there is one -/
noncomputable def theI (P : Int → Prop) : Int := opq 15 (fun P : Int → Prop => @dite Int (∃ r, P r) (Classical.propDecidable _) (fun h => Classical.choose h) (fun _ => 0)) P
theorem the_ok {P : Int → Prop} (h : ∃ r, P r) : P (theI P) := by
  unfold theI
  rw [opq_eq]
  simp only [dif_pos h]
  exact Classical.choose_spec h
theorem the_eq {P : Int → Prop} (hu : ∀ r s, P r → P s → r = s) {r : Int} (h : P r) : theI P = r := hu _ _ (the_ok ⟨r, h⟩) h
noncomputable def misS (w : Int → Int) : Int := theI (misR w)
theorem misS_eq {w : Int → Int} {r : Int} (h : misR w r) : misS w = r := the_eq (fun _ _ => misR_u) h
/-- can a tower signal another one -/
def csP (w : Int → Int) (t o : Int) : Prop := t ≠ o ∧ tw w t 4 = 1 ∧ tw w o 5 = 0 ∧ rchP w t (tw w o 0)
noncomputable def marS (w : Int → Int) (t o : Int) : Int := powS w t - costS w (tw w t 0) (tw w o 0)
end Rw
section Tw3
variable {Γ : yG} {A : Nat → Nat} {T : Nat → Int → Int} {G : yH}
set_option maxHeartbeats 4000000
theorem m_litOnes (hA : mA A) (hS : SH (T 5)) : Ct_X3_litOnes Γ 3 0 0 [.ref (A 0)] (mH A T G) (fun v G' => v = some (.int (iI (sumI (fun t => tw (T 5) t 4) (T 5 10)))) ∧ G' = mH A T G) noX := by
  refine y_start (lv0 := [some (.ref (A 0)), none, none]) (nm := "litOnes") (own := RX3) (by decide +kernel) rfl rfl (by exact Nat.le_of_ble_eq_true rfl) (by rfl) ?_
  intro Z Q E F
  have hS1 := hS.nt
  have loop : ∀ i n : Int, 0 ≤ i → i ≤ T 5 10 → n = sumI (fun t => tw (T 5) t 4) i → Y Γ Z 0 0 Q (mH A T G) 4 [some (.ref (A 0)), some (.int (iI n)), some (.int (iI i))] [] := by
    refine loopDown (T 5 10) ?_
    intro i ih n h0 h1 hn
    refine y_iload_n E dX3_litOnes_4 (by rfl) ?_
    first | refine y_ald_n E dX3_litOnes_5 (by rfl) ?_ | refine y_aload_n E dX3_litOnes_5 (by rfl) ?_
    refine y_get E dX3_litOnes_6 fl_X3_13_X3 (m_o hA _ _) (by rfl) ?_
    refine y_bipush E dX3_litOnes_9 (by decide) ?_
    refine y_iald E dX3_litOnes_11 (m_r5 hA _ _) (by omega) ?_
    refine y_icmp_ge (tgt := 30) E dX3_litOnes_12 (by decide) (by omega) (by omega) (fun h12 => ?_) (fun h12 => ?_)
    · refine y_iload_n E dX3_litOnes_30 (by rfl) ?_
      refine y_ireturn E F rfl rfl dX3_litOnes_31 (by omega) (by omega) ⟨(rI (by rw [hn, show i = T 5 10 by omega])), rfl⟩
    · refine y_iload_n E dX3_litOnes_15 (by rfl) ?_
      first | refine y_ald_n E dX3_litOnes_16 (by rfl) ?_ | refine y_aload_n E dX3_litOnes_16 (by rfl) ?_
      refine y_iload_n E dX3_litOnes_17 (by rfl) ?_
      refine y_iconst E dX3_litOnes_18 ?_
      refine y_callV E dX3_litOnes_19 lk_X3_81 (m_ofTower hA ?_ ?_) (by rfl) (m_o hA _ _) rfl (by decide) (by omega) (by omega) rfl (Nat.le_of_ble_eq_true rfl) ?_ (fun _ _ _ h => h.elim)
      · omega
      · omega
      rintro _ _ ⟨rfl, rfl⟩
      refine y_iadd E dX3_litOnes_22 ?_
      refine y_istore_n (j := 1) E dX3_litOnes_23 rfl (Nat.le_of_ble_eq_true rfl) ?_
      refine y_iinc E dX3_litOnes_24 (by rfl) ?_
      refine y_goto (tgt := 4) E dX3_litOnes_27 (by decide) ?_
      exact ih (by omega) _ (by omega) (by omega) (by rw [sumI_s h0, hn]; first | done | rfl | (show _ = _ + b2i (dB _); first | rw [b2i_dt (by assumption)] | rw [b2i_df (by assumption)]))
  refine y_iconst E dX3_litOnes_0 ?_
  refine y_istore_n (j := 1) E dX3_litOnes_1 rfl (Nat.le_of_ble_eq_true rfl) ?_
  refine y_iconst E dX3_litOnes_2 ?_
  refine y_istore_n (j := 2) E dX3_litOnes_3 rfl (Nat.le_of_ble_eq_true rfl) ?_
  exact loop 0 0 (by omega) (by omega) (sumI_0 _).symm
theorem m_brokenOnes (hA : mA A) (hS : SH (T 5)) : Ct_X3_brokenOnes Γ 3 0 0 [.ref (A 0)] (mH A T G) (fun v G' => v = some (.int (iI (sumI (fun t => tw (T 5) t 5) (T 5 10)))) ∧ G' = mH A T G) noX := by
  refine y_start (lv0 := [some (.ref (A 0)), none, none]) (nm := "brokenOnes") (own := RX3) (by decide +kernel) rfl rfl (by exact Nat.le_of_ble_eq_true rfl) (by rfl) ?_
  intro Z Q E F
  have hS1 := hS.nt
  have loop : ∀ i n : Int, 0 ≤ i → i ≤ T 5 10 → n = sumI (fun t => tw (T 5) t 5) i → Y Γ Z 0 0 Q (mH A T G) 4 [some (.ref (A 0)), some (.int (iI n)), some (.int (iI i))] [] := by
    refine loopDown (T 5 10) ?_
    intro i ih n h0 h1 hn
    refine y_iload_n E dX3_brokenOnes_4 (by rfl) ?_
    first | refine y_ald_n E dX3_brokenOnes_5 (by rfl) ?_ | refine y_aload_n E dX3_brokenOnes_5 (by rfl) ?_
    refine y_get E dX3_brokenOnes_6 fl_X3_13_X3 (m_o hA _ _) (by rfl) ?_
    refine y_bipush E dX3_brokenOnes_9 (by decide) ?_
    refine y_iald E dX3_brokenOnes_11 (m_r5 hA _ _) (by omega) ?_
    refine y_icmp_ge (tgt := 30) E dX3_brokenOnes_12 (by decide) (by omega) (by omega) (fun h12 => ?_) (fun h12 => ?_)
    · refine y_iload_n E dX3_brokenOnes_30 (by rfl) ?_
      refine y_ireturn E F rfl rfl dX3_brokenOnes_31 (by omega) (by omega) ⟨(rI (by rw [hn, show i = T 5 10 by omega])), rfl⟩
    · refine y_iload_n E dX3_brokenOnes_15 (by rfl) ?_
      first | refine y_ald_n E dX3_brokenOnes_16 (by rfl) ?_ | refine y_aload_n E dX3_brokenOnes_16 (by rfl) ?_
      refine y_iload_n E dX3_brokenOnes_17 (by rfl) ?_
      refine y_iconst E dX3_brokenOnes_18 ?_
      refine y_callV E dX3_brokenOnes_19 lk_X3_81 (m_ofTower hA ?_ ?_) (by rfl) (m_o hA _ _) rfl (by decide) (by omega) (by omega) rfl (Nat.le_of_ble_eq_true rfl) ?_ (fun _ _ _ h => h.elim)
      · omega
      · omega
      rintro _ _ ⟨rfl, rfl⟩
      refine y_iadd E dX3_brokenOnes_22 ?_
      refine y_istore_n (j := 1) E dX3_brokenOnes_23 rfl (Nat.le_of_ble_eq_true rfl) ?_
      refine y_iinc E dX3_brokenOnes_24 (by rfl) ?_
      refine y_goto (tgt := 4) E dX3_brokenOnes_27 (by decide) ?_
      exact ih (by omega) _ (by omega) (by omega) (by rw [sumI_s h0, hn]; first | done | rfl | (show _ = _ + b2i (dB _); first | rw [b2i_dt (by assumption)] | rw [b2i_df (by assumption)]))
  refine y_iconst E dX3_brokenOnes_0 ?_
  refine y_istore_n (j := 1) E dX3_brokenOnes_1 rfl (Nat.le_of_ble_eq_true rfl) ?_
  refine y_iconst E dX3_brokenOnes_2 ?_
  refine y_istore_n (j := 2) E dX3_brokenOnes_3 rfl (Nat.le_of_ble_eq_true rfl) ?_
  exact loop 0 0 (by omega) (by omega) (sumI_0 _).symm
theorem m_allFog (hA : mA A) : Ct_X3_allFog Γ 1 0 0 [.ref (A 0)] (mH A T G) (fun v G' => v = some (.int (iI (sumI (fun k => T 5 (3 + k)) 7))) ∧ G' = mH A T G) noX := by
  refine y_start (lv0 := [some (.ref (A 0)), none, none]) (nm := "allFog") (own := RX3) (by decide +kernel) rfl rfl (by exact Nat.le_of_ble_eq_true rfl) (by rfl) ?_
  intro Z Q E F
  have loop : ∀ i n : Int, 0 ≤ i → i ≤ 7 → n = sumI (fun k => T 5 (3 + k)) i → Y Γ Z 0 0 Q (mH A T G) 4 [some (.ref (A 0)), some (.int (iI n)), some (.int (iI i))] [] := by
    refine loopDown (7) ?_
    intro i ih n h0 h1 hn
    refine y_iload_n E dX3_allFog_4 (by rfl) ?_
    refine y_bipush E dX3_allFog_5 (by decide) ?_
    refine y_icmp_ge (tgt := 27) E dX3_allFog_7 (by decide) (by omega) (by omega) (fun h7 => ?_) (fun h7 => ?_)
    · refine y_iload_n E dX3_allFog_27 (by rfl) ?_
      refine y_ireturn E F rfl rfl dX3_allFog_28 (by omega) (by omega) ⟨(rI (by rw [hn, show i = 7 by omega])), rfl⟩
    · refine y_iload_n E dX3_allFog_10 (by rfl) ?_
      first | refine y_ald_n E dX3_allFog_11 (by rfl) ?_ | refine y_aload_n E dX3_allFog_11 (by rfl) ?_
      refine y_get E dX3_allFog_12 fl_X3_13_X3 (m_o hA _ _) (by rfl) ?_
      refine y_iconst E dX3_allFog_15 ?_
      refine y_iload_n E dX3_allFog_16 (by rfl) ?_
      refine y_iadd E dX3_allFog_17 ?_
      refine y_iald E dX3_allFog_18 (m_r5 hA _ _) (by omega) ?_
      refine y_iadd E dX3_allFog_19 ?_
      refine y_istore_n (j := 1) E dX3_allFog_20 rfl (Nat.le_of_ble_eq_true rfl) ?_
      refine y_iinc E dX3_allFog_21 (by rfl) ?_
      refine y_goto (tgt := 4) E dX3_allFog_24 (by decide) ?_
      exact ih (by omega) _ (by omega) (by omega) (by rw [sumI_s h0, hn]; first | done | rfl | (show _ = _ + b2i (dB _); first | rw [b2i_dt (by assumption)] | rw [b2i_df (by assumption)]))
  refine y_iconst E dX3_allFog_0 ?_
  refine y_istore_n (j := 1) E dX3_allFog_1 rfl (Nat.le_of_ble_eq_true rfl) ?_
  refine y_iconst E dX3_allFog_2 ?_
  refine y_istore_n (j := 2) E dX3_allFog_3 rfl (Nat.le_of_ble_eq_true rfl) ?_
  exact loop 0 0 (by omega) (by omega) (sumI_0 _).symm
theorem m_scrapped (hA : mA A) (hS : SH (T 5)) : Ct_X3_scrapped Γ 2 0 0 [.ref (A 0)] (mH A T G) (fun v G' => v = some (.int (iI (sumI (fun l => b2i (dB (lw (T 5) l 2 = -2))) (T 5 11)))) ∧ G' = mH A T G) noX := by
  refine y_start (lv0 := [some (.ref (A 0)), none, none]) (nm := "scrapped") (own := RX3) (by decide +kernel) rfl rfl (by exact Nat.le_of_ble_eq_true rfl) (by rfl) ?_
  intro Z Q E F
  have hS1 := hS.nl
  have loop : ∀ i n : Int, 0 ≤ i → i ≤ T 5 11 → n = sumI (fun l => b2i (dB (lw (T 5) l 2 = -2))) i → Y Γ Z 0 0 Q (mH A T G) 4 [some (.ref (A 0)), some (.int (iI n)), some (.int (iI i))] [] := by
    refine loopDown (T 5 11) ?_
    intro i ih n h0 h1 hn
    have hg : i < T 5 11 → -2 ≤ T 5 (89 + 3 * i + 2) ∧ T 5 (89 + 3 * i + 2) ≤ 7 := fun h => (hS.l h0 (by omega)).2.2
    refine y_iload_n E dX3_scrapped_4 (by rfl) ?_
    first | refine y_ald_n E dX3_scrapped_5 (by rfl) ?_ | refine y_aload_n E dX3_scrapped_5 (by rfl) ?_
    refine y_get E dX3_scrapped_6 fl_X3_13_X3 (m_o hA _ _) (by rfl) ?_
    refine y_bipush E dX3_scrapped_9 (by decide) ?_
    refine y_iald E dX3_scrapped_11 (m_r5 hA _ _) (by omega) ?_
    refine y_icmp_ge (tgt := 44) E dX3_scrapped_12 (by decide) (by omega) (by omega) (fun h12 => ?_) (fun h12 => ?_)
    · refine y_iload_n E dX3_scrapped_44 (by rfl) ?_
      refine y_ireturn E F rfl rfl dX3_scrapped_45 (by omega) (by omega) ⟨(rI (by rw [hn, show i = T 5 11 by omega])), rfl⟩
    · refine y_iload_n E dX3_scrapped_15 (by rfl) ?_
      first | refine y_ald_n E dX3_scrapped_16 (by rfl) ?_ | refine y_aload_n E dX3_scrapped_16 (by rfl) ?_
      refine y_get E dX3_scrapped_17 fl_X3_13_X3 (m_o hA _ _) (by rfl) ?_
      refine y_iload_n E dX3_scrapped_20 (by rfl) ?_
      refine y_iconst E dX3_scrapped_21 ?_
      refine y_callS E dX3_scrapped_22 lk_X3_84 (m_lensAt) (by rfl) (by decide) (by omega) (by omega) rfl (Nat.le_of_ble_eq_true rfl) ?_ (fun _ _ _ h => h.elim)
      rintro _ _ ⟨rfl, rfl⟩
      refine y_iald E dX3_scrapped_25 (m_r5 hA _ _) (by omega) ?_
      refine y_bipush E dX3_scrapped_26 (by decide) ?_
      refine y_icmp_ne (tgt := 35) E dX3_scrapped_28 (by decide) (by omega) (by omega) (fun h28 => ?_) (fun h28 => ?_)
      · refine y_iconst E dX3_scrapped_35 ?_
        refine y_iadd E dX3_scrapped_36 ?_
        refine y_istore_n (j := 1) E dX3_scrapped_37 rfl (Nat.le_of_ble_eq_true rfl) ?_
        refine y_iinc E dX3_scrapped_38 (by rfl) ?_
        refine y_goto (tgt := 4) E dX3_scrapped_41 (by decide) ?_
        exact ih (by omega) _ (by omega) (by omega) (by rw [sumI_s h0, hn]; show _ = _ + b2i (dB _); first | rw [b2i_dt (show lw (T 5) i 2 = -2 from by assumption)] | rw [b2i_df (show ¬ lw (T 5) i 2 = -2 from by assumption)])
      · refine y_iconst E dX3_scrapped_31 ?_
        refine y_goto (tgt := 36) E dX3_scrapped_32 (by decide) ?_
        refine y_iadd E dX3_scrapped_36 ?_
        refine y_istore_n (j := 1) E dX3_scrapped_37 rfl (Nat.le_of_ble_eq_true rfl) ?_
        refine y_iinc E dX3_scrapped_38 (by rfl) ?_
        refine y_goto (tgt := 4) E dX3_scrapped_41 (by decide) ?_
        exact ih (by omega) _ (by omega) (by omega) (by rw [sumI_s h0, hn]; show _ = _ + b2i (dB _); first | rw [b2i_dt (show lw (T 5) i 2 = -2 from by assumption)] | rw [b2i_df (show ¬ lw (T 5) i 2 = -2 from by assumption)])
  refine y_iconst E dX3_scrapped_0 ?_
  refine y_istore_n (j := 1) E dX3_scrapped_1 rfl (Nat.le_of_ble_eq_true rfl) ?_
  refine y_iconst E dX3_scrapped_2 ?_
  refine y_istore_n (j := 2) E dX3_scrapped_3 rfl (Nat.le_of_ble_eq_true rfl) ?_
  exact loop 0 0 (by omega) (by omega) (sumI_0 _).symm
theorem m_allPower (hA : mA A) (hS : SH (T 5)) {x : Int} (hx : inR x) : Ct_X3_allPower Γ 2 0 0 [.ref (A 0), .int (iI (x))] (mH A T G) (fun v G' => v = some (.int (iI (sumI (fun l => if x ≤ lw (T 5) l 2 then lw (T 5) l 0 else 0) (T 5 11)))) ∧ G' = mH A T G) noX := by
  refine y_start (lv0 := [some (.ref (A 0)), some (.int (iI (x))), none, none]) (nm := "allPower") (own := RX3) (by decide +kernel) rfl rfl (by exact Nat.le_of_ble_eq_true rfl) (by rfl) ?_
  intro Z Q E F
  have hS1 := hS.nl
  have loop : ∀ i n : Int, 0 ≤ i → i ≤ T 5 11 → n = sumI (fun l => if x ≤ lw (T 5) l 2 then lw (T 5) l 0 else 0) i → Y Γ Z 0 0 Q (mH A T G) 4 [some (.ref (A 0)), some (.int (iI x)), some (.int (iI n)), some (.int (iI i))] [] := by
    refine loopDown (T 5 11) ?_
    intro i ih n h0 h1 hn
    have hg : i < T 5 11 → -2 ≤ T 5 (89 + 3 * i + 2) ∧ T 5 (89 + 3 * i + 2) ≤ 7 := fun h => (hS.l h0 (by omega)).2.2
    refine y_iload_n E dX3_allPower_4 (by rfl) ?_
    first | refine y_ald_n E dX3_allPower_5 (by rfl) ?_ | refine y_aload_n E dX3_allPower_5 (by rfl) ?_
    refine y_get E dX3_allPower_6 fl_X3_13_X3 (m_o hA _ _) (by rfl) ?_
    refine y_bipush E dX3_allPower_9 (by decide) ?_
    refine y_iald E dX3_allPower_11 (m_r5 hA _ _) (by omega) ?_
    refine y_icmp_ge (tgt := 52) E dX3_allPower_12 (by decide) (by omega) (by omega) (fun h12 => ?_) (fun h12 => ?_)
    · refine y_iload_n E dX3_allPower_52 (by rfl) ?_
      refine y_ireturn E F rfl rfl dX3_allPower_53 (by omega) (by omega) ⟨(rI (by rw [hn, show i = T 5 11 by omega])), rfl⟩
    · refine y_iload_n E dX3_allPower_15 (by rfl) ?_
      first | refine y_ald_n E dX3_allPower_16 (by rfl) ?_ | refine y_aload_n E dX3_allPower_16 (by rfl) ?_
      refine y_get E dX3_allPower_17 fl_X3_13_X3 (m_o hA _ _) (by rfl) ?_
      refine y_iload_n E dX3_allPower_20 (by rfl) ?_
      refine y_iconst E dX3_allPower_21 ?_
      refine y_callS E dX3_allPower_22 lk_X3_84 (m_lensAt) (by rfl) (by decide) (by omega) (by omega) rfl (Nat.le_of_ble_eq_true rfl) ?_ (fun _ _ _ h => h.elim)
      rintro _ _ ⟨rfl, rfl⟩
      refine y_iald E dX3_allPower_25 (m_r5 hA _ _) (by omega) ?_
      refine y_iload_n E dX3_allPower_26 (by rfl) ?_
      refine y_icmp_lt (tgt := 43) E dX3_allPower_27 (by decide) (by omega) (by omega) (fun h27 => ?_) (fun h27 => ?_)
      · refine y_iconst E dX3_allPower_43 ?_
        refine y_iadd E dX3_allPower_44 ?_
        refine y_istore_n (j := 2) E dX3_allPower_45 rfl (Nat.le_of_ble_eq_true rfl) ?_
        refine y_iinc E dX3_allPower_46 (by rfl) ?_
        refine y_goto (tgt := 4) E dX3_allPower_49 (by decide) ?_
        exact ih (by omega) _ (by omega) (by omega) (by rw [sumI_s h0, hn]; show _ = _ + (if _ then _ else _); first | rw [if_pos (show x ≤ lw (T 5) i 2 from by assumption)]; rfl | rw [if_neg (show ¬ x ≤ lw (T 5) i 2 from (by simp only [lw]; omega))])
      · first | refine y_ald_n E dX3_allPower_30 (by rfl) ?_ | refine y_aload_n E dX3_allPower_30 (by rfl) ?_
        refine y_get E dX3_allPower_31 fl_X3_13_X3 (m_o hA _ _) (by rfl) ?_
        refine y_iload_n E dX3_allPower_34 (by rfl) ?_
        refine y_iconst E dX3_allPower_35 ?_
        refine y_callS E dX3_allPower_36 lk_X3_84 (m_lensAt) (by rfl) (by decide) (by omega) (by omega) rfl (Nat.le_of_ble_eq_true rfl) ?_ (fun _ _ _ h => h.elim)
        rintro _ _ ⟨rfl, rfl⟩
        refine y_iald E dX3_allPower_39 (m_r5 hA _ _) (by omega) ?_
        refine y_goto (tgt := 44) E dX3_allPower_40 (by decide) ?_
        refine y_iadd E dX3_allPower_44 ?_
        refine y_istore_n (j := 2) E dX3_allPower_45 rfl (Nat.le_of_ble_eq_true rfl) ?_
        refine y_iinc E dX3_allPower_46 (by rfl) ?_
        refine y_goto (tgt := 4) E dX3_allPower_49 (by decide) ?_
        exact ih (by omega) _ (by omega) (by omega) (by rw [sumI_s h0, hn]; show _ = _ + (if _ then _ else _); first | rw [if_pos (show x ≤ lw (T 5) i 2 from by assumption)]; rfl | rw [if_neg (show ¬ x ≤ lw (T 5) i 2 from (by simp only [lw]; omega))])
  refine y_iconst E dX3_allPower_0 ?_
  refine y_istore_n (j := 2) E dX3_allPower_1 rfl (Nat.le_of_ble_eq_true rfl) ?_
  refine y_iconst E dX3_allPower_2 ?_
  refine y_istore_n (j := 3) E dX3_allPower_3 rfl (Nat.le_of_ble_eq_true rfl) ?_
  exact loop 0 0 (by omega) (by omega) (sumI_0 _).symm
theorem m_costOf (hA : mA A) {a b : Int} (ha : 0 ≤ a ∧ a ≤ 60) (hb : 0 ≤ b ∧ b ≤ 60) : Ct_X3_costOf Γ 1 0 0 [.ref (A 0), .int (iI (a)), .int (iI (b))] (mH A T G) (fun v G' => v = some (.int (iI (costS (T 5) a b))) ∧ G' = mH A T G) noX := by
  refine y_start (lv0 := [some (.ref (A 0)), some (.int (iI (a))), some (.int (iI (b))), none, none]) (nm := "costOf") (own := RX3) (by decide +kernel) rfl rfl (by exact Nat.le_of_ble_eq_true rfl) (by rfl) ?_
  intro Z Q E F
  have loop : ∀ lo hi : Int, (a < b → lo = a + 1 ∧ hi = b) → (¬ a < b → lo = b ∧ hi = a - 1) → ∀ p n : Int, lo ≤ p → p ≤ hi + 1 → n = cF (T 5) p - cF (T 5) lo → Y Γ Z 0 0 Q (mH A T G) 16 [some (.ref (A 0)), some (.int (iI a)), some (.int (iI b)), some (.int (iI n)), some (.int (iI p))] [] := by
    intro lo hi h1 h2
    refine loopDown (hi + 1) ?_
    intro p ih n h3 h4 hn
    refine y_iload E dX3_costOf_16 (by rfl) ?_
    refine y_iload_n E dX3_costOf_18 (by rfl) ?_
    refine y_iload_n E dX3_costOf_19 (by rfl) ?_
    refine y_icmp_ge (tgt := 27) E dX3_costOf_20 (by decide) (by omega) (by omega) (fun h20 => ?_) (fun h20 => ?_)
    · refine y_iload_n E dX3_costOf_27 (by rfl) ?_
      refine y_iconst E dX3_costOf_28 ?_
      refine y_isub E dX3_costOf_29 ?_
      refine y_icmp_gt (tgt := 56) E dX3_costOf_30 (by decide) (by omega) (by omega) (fun h30 => ?_) (fun h30 => ?_)
      · refine y_iload_n E dX3_costOf_56 (by rfl) ?_
        refine y_ireturn E F rfl rfl dX3_costOf_57 (by omega) (by omega) ⟨(rI (by unfold costS; split <;> rename_i hc <;> first | (rw [hn, show p = b + 1 by omega, show lo = a + 1 by omega]; done) | (rw [hn, show p = a by omega, show lo = b by omega]; done))), rfl⟩
      · refine y_iload_n E dX3_costOf_33 (by rfl) ?_
        refine y_iconst E dX3_costOf_34 ?_
        first | refine y_ald_n E dX3_costOf_35 (by rfl) ?_ | refine y_aload_n E dX3_costOf_35 (by rfl) ?_
        refine y_get E dX3_costOf_36 fl_X3_13_X3 (m_o hA _ _) (by rfl) ?_
        refine y_iconst E dX3_costOf_39 ?_
        refine y_iload E dX3_costOf_40 (by rfl) ?_
        refine y_bipush E dX3_costOf_42 (by decide) ?_
        refine y_idiv E dX3_costOf_44 (by omega) (by omega) ?_
        refine y_iadd E dX3_costOf_45 ?_
        refine y_iald E dX3_costOf_46 (m_r5 hA _ _) (by omega) ?_
        refine y_iadd E dX3_costOf_47 ?_
        refine y_iadd E dX3_costOf_48 ?_
        refine y_istore_n (j := 3) E dX3_costOf_49 rfl (Nat.le_of_ble_eq_true rfl) ?_
        refine y_iinc E dX3_costOf_50 (by rfl) ?_
        refine y_goto (tgt := 16) E dX3_costOf_53 (by decide) ?_
        exact ih (by omega) _ (by omega) (by omega) (by rw [hn, cF_s (by omega)]; omega)
    · refine y_iload_n E dX3_costOf_23 (by rfl) ?_
      refine y_goto (tgt := 30) E dX3_costOf_24 (by decide) ?_
      refine y_icmp_gt (tgt := 56) E dX3_costOf_30 (by decide) (by omega) (by omega) (fun h30 => ?_) (fun h30 => ?_)
      · refine y_iload_n E dX3_costOf_56 (by rfl) ?_
        refine y_ireturn E F rfl rfl dX3_costOf_57 (by omega) (by omega) ⟨(rI (by unfold costS; split <;> rename_i hc <;> first | (rw [hn, show p = b + 1 by omega, show lo = a + 1 by omega]; done) | (rw [hn, show p = a by omega, show lo = b by omega]; done))), rfl⟩
      · refine y_iload_n E dX3_costOf_33 (by rfl) ?_
        refine y_iconst E dX3_costOf_34 ?_
        first | refine y_ald_n E dX3_costOf_35 (by rfl) ?_ | refine y_aload_n E dX3_costOf_35 (by rfl) ?_
        refine y_get E dX3_costOf_36 fl_X3_13_X3 (m_o hA _ _) (by rfl) ?_
        refine y_iconst E dX3_costOf_39 ?_
        refine y_iload E dX3_costOf_40 (by rfl) ?_
        refine y_bipush E dX3_costOf_42 (by decide) ?_
        refine y_idiv E dX3_costOf_44 (by omega) (by omega) ?_
        refine y_iadd E dX3_costOf_45 ?_
        refine y_iald E dX3_costOf_46 (m_r5 hA _ _) (by omega) ?_
        refine y_iadd E dX3_costOf_47 ?_
        refine y_iadd E dX3_costOf_48 ?_
        refine y_istore_n (j := 3) E dX3_costOf_49 rfl (Nat.le_of_ble_eq_true rfl) ?_
        refine y_iinc E dX3_costOf_50 (by rfl) ?_
        refine y_goto (tgt := 16) E dX3_costOf_53 (by decide) ?_
        exact ih (by omega) _ (by omega) (by omega) (by rw [hn, cF_s (by omega)]; omega)
  refine y_iconst E dX3_costOf_0 ?_
  refine y_istore_n (j := 3) E dX3_costOf_1 rfl (Nat.le_of_ble_eq_true rfl) ?_
  refine y_iload_n E dX3_costOf_2 (by rfl) ?_
  refine y_iload_n E dX3_costOf_3 (by rfl) ?_
  refine y_icmp_ge (tgt := 13) E dX3_costOf_4 (by decide) (by omega) (by omega) (fun h4 => ?_) (fun h4 => ?_)
  · refine y_iload_n E dX3_costOf_13 (by rfl) ?_
    refine y_istore E dX3_costOf_14 (Nat.le_of_ble_eq_true rfl) ?_
    first | exact loop (a + 1) b (fun _ => ⟨rfl, rfl⟩) (fun h => by omega) (a + 1) 0 (by omega) (by omega) (by omega) | exact loop b (a - 1) (fun h => by omega) (fun _ => ⟨rfl, rfl⟩) b 0 (by omega) (by omega) (by omega)
  · refine y_iload_n E dX3_costOf_7 (by rfl) ?_
    refine y_iconst E dX3_costOf_8 ?_
    refine y_iadd E dX3_costOf_9 ?_
    refine y_goto (tgt := 14) E dX3_costOf_10 (by decide) ?_
    refine y_istore E dX3_costOf_14 (Nat.le_of_ble_eq_true rfl) ?_
    first | exact loop (a + 1) b (fun _ => ⟨rfl, rfl⟩) (fun h => by omega) (a + 1) 0 (by omega) (by omega) (by omega) | exact loop b (a - 1) (fun h => by omega) (fun _ => ⟨rfl, rfl⟩) b 0 (by omega) (by omega) (by omega)
theorem m_doesReach (hA : mA A) (hS : SH (T 5)) {t p : Int} (ht : 0 ≤ t ∧ t < 8) (hp : 0 ≤ p ∧ p ≤ 60) : Ct_X3_doesReach Γ 4 0 0 [.ref (A 0), .int (iI (t)), .int (iI (p))] (mH A T G) (fun v G' => v = some (.int (iI (b2i (dB (rchP (T 5) t p))))) ∧ G' = mH A T G) noX := by
  refine y_start (lv0 := [some (.ref (A 0)), some (.int (iI (t))), some (.int (iI (p))), none, none]) (nm := "doesReach") (own := RX3) (by decide +kernel) rfl rfl (by exact Nat.le_of_ble_eq_true rfl) (by rfl) ?_
  intro Z Q E F
  have hS1 := hS.t ht.1 ht.2
  have hS2 := hS.pow ht.1 ht.2
  have hS3 := hS.cost (a := tw (T 5) t 0) (b := p) (by omega) hp
  first | refine y_ald_n E dX3_doesReach_0 (by rfl) ?_ | refine y_aload_n E dX3_doesReach_0 (by rfl) ?_
  refine y_iload_n E dX3_doesReach_1 (by rfl) ?_
  refine y_iconst E dX3_doesReach_2 ?_
  refine y_callV E dX3_doesReach_3 lk_X3_81 (m_ofTower hA ?_ ?_) (by rfl) (m_o hA _ _) rfl (by decide) (by omega) (by omega) rfl (Nat.le_of_ble_eq_true rfl) ?_ (fun _ _ _ h => h.elim)
  · omega
  · omega
  rintro _ _ ⟨rfl, rfl⟩
  refine y_if_ge (tgt := 11) E dX3_doesReach_6 (by decide) (by omega) (fun h6 => ?_) (fun h6 => ?_)
  · first | refine y_ald_n E dX3_doesReach_11 (by rfl) ?_ | refine y_aload_n E dX3_doesReach_11 (by rfl) ?_
    refine y_iload_n E dX3_doesReach_12 (by rfl) ?_
    refine y_iconst E dX3_doesReach_13 ?_
    refine y_callV E dX3_doesReach_14 lk_X3_81 (m_ofTower hA ?_ ?_) (by rfl) (m_o hA _ _) rfl (by decide) (by omega) (by omega) rfl (Nat.le_of_ble_eq_true rfl) ?_ (fun _ _ _ h => h.elim)
    · omega
    · omega
    rintro _ _ ⟨rfl, rfl⟩
    refine y_istore_n (j := 3) E dX3_doesReach_17 rfl (Nat.le_of_ble_eq_true rfl) ?_
    refine y_iload_n E dX3_doesReach_18 (by rfl) ?_
    refine y_iload_n E dX3_doesReach_19 (by rfl) ?_
    refine y_icmp_eq (tgt := 55) E dX3_doesReach_20 (by decide) (by omega) (by omega) (fun h20 => ?_) (fun h20 => ?_)
    · refine y_iconst E dX3_doesReach_55 ?_
      refine y_goto (tgt := 60) E dX3_doesReach_56 (by decide) ?_
      refine y_istore E dX3_doesReach_60 (Nat.le_of_ble_eq_true rfl) ?_
      refine y_iload E dX3_doesReach_62 (by rfl) ?_
      refine y_if_eq (tgt := 85) E dX3_doesReach_64 (by decide) (by decide) (fun h => absurd h (by decide)) (fun _ => ?_)
      first | refine y_ald_n E dX3_doesReach_67 (by rfl) ?_ | refine y_aload_n E dX3_doesReach_67 (by rfl) ?_
      refine y_iload_n E dX3_doesReach_68 (by rfl) ?_
      refine y_iload_n E dX3_doesReach_69 (by rfl) ?_
      refine y_callV E dX3_doesReach_70 lk_X3_87 (m_costOf hA ?_ ?_) (by rfl) (m_o hA _ _) rfl (by decide) (by omega) (by omega) rfl (Nat.le_of_ble_eq_true rfl) ?_ (fun _ _ _ h => h.elim)
      · omega
      · omega
      rintro _ _ ⟨rfl, rfl⟩
      first | refine y_ald_n E dX3_doesReach_73 (by rfl) ?_ | refine y_aload_n E dX3_doesReach_73 (by rfl) ?_
      refine y_iload_n E dX3_doesReach_74 (by rfl) ?_
      refine y_callV E dX3_doesReach_75 lk_X3_90 (m_powerOf hA ?_ ?_) (by rfl) (m_o hA _ _) rfl (by decide) (by omega) (by omega) rfl (Nat.le_of_ble_eq_true rfl) ?_ (fun _ _ _ h => h.elim)
      · exact hS
      · omega
      rintro _ _ ⟨rfl, rfl⟩
      refine y_icmp_gt (tgt := 85) E dX3_doesReach_78 (by decide) (by omega) (by omega) (fun h78 => ?_) (fun h78 => ?_)
      · refine y_iconst E dX3_doesReach_85 ?_
        refine y_ireturn E F rfl rfl dX3_doesReach_86 (by omega) (by omega) ⟨(rF (by unfold rchP; omega)), rfl⟩
      · refine y_iconst E dX3_doesReach_81 ?_
        refine y_goto (tgt := 86) E dX3_doesReach_82 (by decide) ?_
        refine y_ireturn E F rfl rfl dX3_doesReach_86 (by omega) (by omega) ⟨(rT (by unfold rchP; omega)), rfl⟩
    · first | refine y_ald_n E dX3_doesReach_23 (by rfl) ?_ | refine y_aload_n E dX3_doesReach_23 (by rfl) ?_
      refine y_iload_n E dX3_doesReach_24 (by rfl) ?_
      refine y_iconst E dX3_doesReach_25 ?_
      refine y_callV E dX3_doesReach_26 lk_X3_81 (m_ofTower hA ?_ ?_) (by rfl) (m_o hA _ _) rfl (by decide) (by omega) (by omega) rfl (Nat.le_of_ble_eq_true rfl) ?_ (fun _ _ _ h => h.elim)
      · omega
      · omega
      rintro _ _ ⟨rfl, rfl⟩
      refine y_if_eq (tgt := 55) E dX3_doesReach_29 (by decide) (by omega) (fun h29 => ?_) (fun h29 => ?_)
      · refine y_iconst E dX3_doesReach_55 ?_
        refine y_goto (tgt := 60) E dX3_doesReach_56 (by decide) ?_
        refine y_istore E dX3_doesReach_60 (Nat.le_of_ble_eq_true rfl) ?_
        refine y_iload E dX3_doesReach_62 (by rfl) ?_
        refine y_if_eq (tgt := 85) E dX3_doesReach_64 (by decide) (by decide) (fun h => absurd h (by decide)) (fun _ => ?_)
        first | refine y_ald_n E dX3_doesReach_67 (by rfl) ?_ | refine y_aload_n E dX3_doesReach_67 (by rfl) ?_
        refine y_iload_n E dX3_doesReach_68 (by rfl) ?_
        refine y_iload_n E dX3_doesReach_69 (by rfl) ?_
        refine y_callV E dX3_doesReach_70 lk_X3_87 (m_costOf hA ?_ ?_) (by rfl) (m_o hA _ _) rfl (by decide) (by omega) (by omega) rfl (Nat.le_of_ble_eq_true rfl) ?_ (fun _ _ _ h => h.elim)
        · omega
        · omega
        rintro _ _ ⟨rfl, rfl⟩
        first | refine y_ald_n E dX3_doesReach_73 (by rfl) ?_ | refine y_aload_n E dX3_doesReach_73 (by rfl) ?_
        refine y_iload_n E dX3_doesReach_74 (by rfl) ?_
        refine y_callV E dX3_doesReach_75 lk_X3_90 (m_powerOf hA ?_ ?_) (by rfl) (m_o hA _ _) rfl (by decide) (by omega) (by omega) rfl (Nat.le_of_ble_eq_true rfl) ?_ (fun _ _ _ h => h.elim)
        · exact hS
        · omega
        rintro _ _ ⟨rfl, rfl⟩
        refine y_icmp_gt (tgt := 85) E dX3_doesReach_78 (by decide) (by omega) (by omega) (fun h78 => ?_) (fun h78 => ?_)
        · refine y_iconst E dX3_doesReach_85 ?_
          refine y_ireturn E F rfl rfl dX3_doesReach_86 (by omega) (by omega) ⟨(rF (by unfold rchP; omega)), rfl⟩
        · refine y_iconst E dX3_doesReach_81 ?_
          refine y_goto (tgt := 86) E dX3_doesReach_82 (by decide) ?_
          refine y_ireturn E F rfl rfl dX3_doesReach_86 (by omega) (by omega) ⟨(rT (by unfold rchP; omega)), rfl⟩
      · first | refine y_ald_n E dX3_doesReach_32 (by rfl) ?_ | refine y_aload_n E dX3_doesReach_32 (by rfl) ?_
        refine y_iload_n E dX3_doesReach_33 (by rfl) ?_
        refine y_iconst E dX3_doesReach_34 ?_
        refine y_callV E dX3_doesReach_35 lk_X3_81 (m_ofTower hA ?_ ?_) (by rfl) (m_o hA _ _) rfl (by decide) (by omega) (by omega) rfl (Nat.le_of_ble_eq_true rfl) ?_ (fun _ _ _ h => h.elim)
        · omega
        · omega
        rintro _ _ ⟨rfl, rfl⟩
        refine y_iconst E dX3_doesReach_38 ?_
        refine y_icmp_ne (tgt := 50) E dX3_doesReach_39 (by decide) (by omega) (by omega) (fun h39 => ?_) (fun h39 => ?_)
        · refine y_iload_n E dX3_doesReach_50 (by rfl) ?_
          refine y_iload_n E dX3_doesReach_51 (by rfl) ?_
          refine y_icmp_le (tgt := 59) E dX3_doesReach_52 (by decide) (by omega) (by omega) (fun h52 => ?_) (fun h52 => ?_)
          · refine y_iconst E dX3_doesReach_59 ?_
            refine y_istore E dX3_doesReach_60 (Nat.le_of_ble_eq_true rfl) ?_
            refine y_iload E dX3_doesReach_62 (by rfl) ?_
            refine y_if_eq (tgt := 85) E dX3_doesReach_64 (by decide) (by decide) (fun _ => ?_) (fun h => absurd h (by decide))
            refine y_iconst E dX3_doesReach_85 ?_
            refine y_ireturn E F rfl rfl dX3_doesReach_86 (by omega) (by omega) ⟨(rF (by unfold rchP; omega)), rfl⟩
          · refine y_iconst E dX3_doesReach_55 ?_
            refine y_goto (tgt := 60) E dX3_doesReach_56 (by decide) ?_
            refine y_istore E dX3_doesReach_60 (Nat.le_of_ble_eq_true rfl) ?_
            refine y_iload E dX3_doesReach_62 (by rfl) ?_
            refine y_if_eq (tgt := 85) E dX3_doesReach_64 (by decide) (by decide) (fun h => absurd h (by decide)) (fun _ => ?_)
            first | refine y_ald_n E dX3_doesReach_67 (by rfl) ?_ | refine y_aload_n E dX3_doesReach_67 (by rfl) ?_
            refine y_iload_n E dX3_doesReach_68 (by rfl) ?_
            refine y_iload_n E dX3_doesReach_69 (by rfl) ?_
            refine y_callV E dX3_doesReach_70 lk_X3_87 (m_costOf hA ?_ ?_) (by rfl) (m_o hA _ _) rfl (by decide) (by omega) (by omega) rfl (Nat.le_of_ble_eq_true rfl) ?_ (fun _ _ _ h => h.elim)
            · omega
            · omega
            rintro _ _ ⟨rfl, rfl⟩
            first | refine y_ald_n E dX3_doesReach_73 (by rfl) ?_ | refine y_aload_n E dX3_doesReach_73 (by rfl) ?_
            refine y_iload_n E dX3_doesReach_74 (by rfl) ?_
            refine y_callV E dX3_doesReach_75 lk_X3_90 (m_powerOf hA ?_ ?_) (by rfl) (m_o hA _ _) rfl (by decide) (by omega) (by omega) rfl (Nat.le_of_ble_eq_true rfl) ?_ (fun _ _ _ h => h.elim)
            · exact hS
            · omega
            rintro _ _ ⟨rfl, rfl⟩
            refine y_icmp_gt (tgt := 85) E dX3_doesReach_78 (by decide) (by omega) (by omega) (fun h78 => ?_) (fun h78 => ?_)
            · refine y_iconst E dX3_doesReach_85 ?_
              refine y_ireturn E F rfl rfl dX3_doesReach_86 (by omega) (by omega) ⟨(rF (by unfold rchP; omega)), rfl⟩
            · refine y_iconst E dX3_doesReach_81 ?_
              refine y_goto (tgt := 86) E dX3_doesReach_82 (by decide) ?_
              refine y_ireturn E F rfl rfl dX3_doesReach_86 (by omega) (by omega) ⟨(rT (by unfold rchP; omega)), rfl⟩
        · refine y_iload_n E dX3_doesReach_42 (by rfl) ?_
          refine y_iload_n E dX3_doesReach_43 (by rfl) ?_
          refine y_icmp_ge (tgt := 59) E dX3_doesReach_44 (by decide) (by omega) (by omega) (fun h44 => ?_) (fun h44 => ?_)
          · refine y_iconst E dX3_doesReach_59 ?_
            refine y_istore E dX3_doesReach_60 (Nat.le_of_ble_eq_true rfl) ?_
            refine y_iload E dX3_doesReach_62 (by rfl) ?_
            refine y_if_eq (tgt := 85) E dX3_doesReach_64 (by decide) (by decide) (fun _ => ?_) (fun h => absurd h (by decide))
            refine y_iconst E dX3_doesReach_85 ?_
            refine y_ireturn E F rfl rfl dX3_doesReach_86 (by omega) (by omega) ⟨(rF (by unfold rchP; omega)), rfl⟩
          · refine y_goto (tgt := 55) E dX3_doesReach_47 (by decide) ?_
            refine y_iconst E dX3_doesReach_55 ?_
            refine y_goto (tgt := 60) E dX3_doesReach_56 (by decide) ?_
            refine y_istore E dX3_doesReach_60 (Nat.le_of_ble_eq_true rfl) ?_
            refine y_iload E dX3_doesReach_62 (by rfl) ?_
            refine y_if_eq (tgt := 85) E dX3_doesReach_64 (by decide) (by decide) (fun h => absurd h (by decide)) (fun _ => ?_)
            first | refine y_ald_n E dX3_doesReach_67 (by rfl) ?_ | refine y_aload_n E dX3_doesReach_67 (by rfl) ?_
            refine y_iload_n E dX3_doesReach_68 (by rfl) ?_
            refine y_iload_n E dX3_doesReach_69 (by rfl) ?_
            refine y_callV E dX3_doesReach_70 lk_X3_87 (m_costOf hA ?_ ?_) (by rfl) (m_o hA _ _) rfl (by decide) (by omega) (by omega) rfl (Nat.le_of_ble_eq_true rfl) ?_ (fun _ _ _ h => h.elim)
            · omega
            · omega
            rintro _ _ ⟨rfl, rfl⟩
            first | refine y_ald_n E dX3_doesReach_73 (by rfl) ?_ | refine y_aload_n E dX3_doesReach_73 (by rfl) ?_
            refine y_iload_n E dX3_doesReach_74 (by rfl) ?_
            refine y_callV E dX3_doesReach_75 lk_X3_90 (m_powerOf hA ?_ ?_) (by rfl) (m_o hA _ _) rfl (by decide) (by omega) (by omega) rfl (Nat.le_of_ble_eq_true rfl) ?_ (fun _ _ _ h => h.elim)
            · exact hS
            · omega
            rintro _ _ ⟨rfl, rfl⟩
            refine y_icmp_gt (tgt := 85) E dX3_doesReach_78 (by decide) (by omega) (by omega) (fun h78 => ?_) (fun h78 => ?_)
            · refine y_iconst E dX3_doesReach_85 ?_
              refine y_ireturn E F rfl rfl dX3_doesReach_86 (by omega) (by omega) ⟨(rF (by unfold rchP; omega)), rfl⟩
            · refine y_iconst E dX3_doesReach_81 ?_
              refine y_goto (tgt := 86) E dX3_doesReach_82 (by decide) ?_
              refine y_ireturn E F rfl rfl dX3_doesReach_86 (by omega) (by omega) ⟨(rT (by unfold rchP; omega)), rfl⟩
  · refine y_iconst E dX3_doesReach_9 ?_
    refine y_ireturn E F rfl rfl dX3_doesReach_10 (by omega) (by omega) ⟨(rF (by unfold rchP; omega)), rfl⟩
theorem m_reachedBy (hA : mA A) (hS : SH (T 5)) {t : Int} (ht : 0 ≤ t ∧ t < 8) : Ct_X3_reachedBy Γ 5 0 0 [.ref (A 0), .int (iI (t))] (mH A T G) (fun v G' => v = some (.int (iI (sumI (fun p => b2i (dB (rchP (T 5) t p))) 61))) ∧ G' = mH A T G) noX := by
  refine y_start (lv0 := [some (.ref (A 0)), some (.int (iI (t))), none, none]) (nm := "reachedBy") (own := RX3) (by decide +kernel) rfl rfl (by exact Nat.le_of_ble_eq_true rfl) (by rfl) ?_
  intro Z Q E F
  have loop : ∀ i n : Int, 0 ≤ i → i ≤ 61 → n = sumI (fun p => b2i (dB (rchP (T 5) t p))) i → Y Γ Z 0 0 Q (mH A T G) 4 [some (.ref (A 0)), some (.int (iI t)), some (.int (iI n)), some (.int (iI i))] [] := by
    refine loopDown (61) ?_
    intro i ih n h0 h1 hn
    refine y_iload_n E dX3_reachedBy_4 (by rfl) ?_
    refine y_bipush E dX3_reachedBy_5 (by decide) ?_
    refine y_icmp_ge (tgt := 33) E dX3_reachedBy_7 (by decide) (by omega) (by omega) (fun h7 => ?_) (fun h7 => ?_)
    · refine y_iload_n E dX3_reachedBy_33 (by rfl) ?_
      refine y_ireturn E F rfl rfl dX3_reachedBy_34 (by omega) (by omega) ⟨(rI (by rw [hn, show i = 61 by omega])), rfl⟩
    · refine y_iload_n E dX3_reachedBy_10 (by rfl) ?_
      first | refine y_ald_n E dX3_reachedBy_11 (by rfl) ?_ | refine y_aload_n E dX3_reachedBy_11 (by rfl) ?_
      refine y_iload_n E dX3_reachedBy_12 (by rfl) ?_
      refine y_iload_n E dX3_reachedBy_13 (by rfl) ?_
      refine y_callV E dX3_reachedBy_14 lk_X3_93 (m_doesReach hA ?_ ?_ ?_) (by rfl) (m_o hA _ _) rfl (by decide) (by omega) (by omega) rfl (Nat.le_of_ble_eq_true rfl) ?_ (fun _ _ _ h => h.elim)
      · exact hS
      · omega
      · omega
      rintro _ _ ⟨rfl, rfl⟩
      refine y_ifd_eq (tgt := 24) E dX3_reachedBy_17 (by decide) (fun h17 => ?_) (fun h17 => ?_)
      · refine y_iconst E dX3_reachedBy_24 ?_
        refine y_iadd E dX3_reachedBy_25 ?_
        refine y_istore_n (j := 2) E dX3_reachedBy_26 rfl (Nat.le_of_ble_eq_true rfl) ?_
        refine y_iinc E dX3_reachedBy_27 (by rfl) ?_
        refine y_goto (tgt := 4) E dX3_reachedBy_30 (by decide) ?_
        exact ih (by omega) _ (by omega) (by omega) (by rw [sumI_s h0, hn]; first | done | rfl | (show _ = _ + b2i (dB _); first | rw [b2i_dt (by assumption)] | rw [b2i_df (by assumption)]))
      · refine y_iconst E dX3_reachedBy_20 ?_
        refine y_goto (tgt := 25) E dX3_reachedBy_21 (by decide) ?_
        refine y_iadd E dX3_reachedBy_25 ?_
        refine y_istore_n (j := 2) E dX3_reachedBy_26 rfl (Nat.le_of_ble_eq_true rfl) ?_
        refine y_iinc E dX3_reachedBy_27 (by rfl) ?_
        refine y_goto (tgt := 4) E dX3_reachedBy_30 (by decide) ?_
        exact ih (by omega) _ (by omega) (by omega) (by rw [sumI_s h0, hn]; first | done | rfl | (show _ = _ + b2i (dB _); first | rw [b2i_dt (by assumption)] | rw [b2i_df (by assumption)]))
  refine y_iconst E dX3_reachedBy_0 ?_
  refine y_istore_n (j := 2) E dX3_reachedBy_1 rfl (Nat.le_of_ble_eq_true rfl) ?_
  refine y_iconst E dX3_reachedBy_2 ?_
  refine y_istore_n (j := 3) E dX3_reachedBy_3 rfl (Nat.le_of_ble_eq_true rfl) ?_
  exact loop 0 0 (by omega) (by omega) (sumI_0 _).symm
theorem m_lookAlike (hA : mA A) (hS : SH (T 5)) {a b : Int} (ha : 0 ≤ a ∧ a < 8) (hb : 0 ≤ b ∧ b < 8) (hPa : PO (T 5) a) (hPb : PO (T 5) b) : Ct_X3_lookAlike Γ 3 0 0 [.ref (A 0), .int (iI (a)), .int (iI (b))] (mH A T G) (fun v G' => v = some (.int (iI (b2i (dB (alikeP (T 5) a b))))) ∧ G' = mH A T G) noX := by
  refine y_start (lv0 := [some (.ref (A 0)), some (.int (iI (a))), some (.int (iI (b))), none]) (nm := "lookAlike") (own := RX3) (by decide +kernel) rfl rfl (by exact Nat.le_of_ble_eq_true rfl) (by rfl) ?_
  intro Z Q E F
  have hS1 := hS.t ha.1 ha.2
  have hS2 := hS.t hb.1 hb.2
  obtain ⟨s, hs⟩ : ∃ s : Nat, tw (T 5) a 6 = s := ⟨(tw (T 5) a 6).toNat, by omega⟩
  obtain ⟨o, ho⟩ : ∃ s : Nat, tw (T 5) b 6 = s := ⟨(tw (T 5) b 6).toNat, by omega⟩
  obtain ⟨m, hm⟩ : ∃ s : Nat, tw (T 5) a 7 = s := ⟨(tw (T 5) a 7).toNat, by omega⟩
  have hk := alike_iff hs ho hm hPa hPb
  have hPa2 := hPa.2.2.2
  have hPa1 := hPa.1
  rw [hs, hm] at hPa2
  simp only [Int.toNat_natCast] at hPa2
  have hB := fun (h2 : 2 ≤ m) (h8 : m ≤ 8) => bk_fl m (by omega) h2 s (by omega) hPa2
  first | refine y_ald_n E dX3_lookAlike_0 (by rfl) ?_ | refine y_aload_n E dX3_lookAlike_0 (by rfl) ?_
  refine y_iload_n E dX3_lookAlike_1 (by rfl) ?_
  refine y_bipush E dX3_lookAlike_2 (by decide) ?_
  refine y_callV E dX3_lookAlike_4 lk_X3_81 (m_ofTower hA ?_ ?_) (by rfl) (m_o hA _ _) rfl (by decide) (by omega) (by omega) rfl (Nat.le_of_ble_eq_true rfl) ?_ (fun _ _ _ h => h.elim)
  · omega
  · omega
  rintro _ _ ⟨rfl, rfl⟩
  rw [hm]
  refine y_istore_n (j := 3) E dX3_lookAlike_7 rfl (Nat.le_of_ble_eq_true rfl) ?_
  refine y_iload_n E dX3_lookAlike_8 (by rfl) ?_
  first | refine y_ald_n E dX3_lookAlike_9 (by rfl) ?_ | refine y_aload_n E dX3_lookAlike_9 (by rfl) ?_
  refine y_iload_n E dX3_lookAlike_10 (by rfl) ?_
  refine y_bipush E dX3_lookAlike_11 (by decide) ?_
  refine y_callV E dX3_lookAlike_13 lk_X3_81 (m_ofTower hA ?_ ?_) (by rfl) (m_o hA _ _) rfl (by decide) (by omega) (by omega) rfl (Nat.le_of_ble_eq_true rfl) ?_ (fun _ _ _ h => h.elim)
  · omega
  · omega
  rintro _ _ ⟨rfl, rfl⟩
  refine y_icmp_eq (tgt := 21) E dX3_lookAlike_16 (by decide) (by omega) (by omega) (fun h16 => ?_) (fun h16 => ?_)
  · first | refine y_ald_n E dX3_lookAlike_21 (by rfl) ?_ | refine y_aload_n E dX3_lookAlike_21 (by rfl) ?_
    refine y_iload_n E dX3_lookAlike_22 (by rfl) ?_
    refine y_bipush E dX3_lookAlike_23 (by decide) ?_
    refine y_callV E dX3_lookAlike_25 lk_X3_81 (m_ofTower hA ?_ ?_) (by rfl) (m_o hA _ _) rfl (by decide) (by omega) (by omega) rfl (Nat.le_of_ble_eq_true rfl) ?_ (fun _ _ _ h => h.elim)
    · omega
    · omega
    rintro _ _ ⟨rfl, rfl⟩
    rw [hs]
    first | refine y_ald_n E dX3_lookAlike_28 (by rfl) ?_ | refine y_aload_n E dX3_lookAlike_28 (by rfl) ?_
    refine y_iload_n E dX3_lookAlike_29 (by rfl) ?_
    refine y_bipush E dX3_lookAlike_30 (by decide) ?_
    refine y_callV E dX3_lookAlike_32 lk_X3_81 (m_ofTower hA ?_ ?_) (by rfl) (m_o hA _ _) rfl (by decide) (by omega) (by omega) rfl (Nat.le_of_ble_eq_true rfl) ?_ (fun _ _ _ h => h.elim)
    · omega
    · omega
    rintro _ _ ⟨rfl, rfl⟩
    rw [ho]
    refine y_iload_n E dX3_lookAlike_35 (by rfl) ?_
    refine y_callS E dX3_lookAlike_36 lk_X3_100 (m_doesTurnInto ?_ ?_ ?_) (by rfl) (by decide) (by omega) (by omega) rfl (Nat.le_of_ble_eq_true rfl) ?_ (fun _ _ _ h => h.elim)
    · exact hPa2
    · omega
    · omega
    rintro _ _ ⟨rfl, rfl⟩
    refine y_ifd_ne (tgt := 67) E dX3_lookAlike_39 (by decide) (fun h39 => ?_) (fun h39 => ?_)
    · refine y_iconst E dX3_lookAlike_67 ?_
      refine y_goto (tgt := 72) E dX3_lookAlike_68 (by decide) ?_
      have h16' : tw (T 5) a 7 = tw (T 5) b 7 := by omega
      refine y_ireturn E F rfl rfl dX3_lookAlike_72 (by omega) (by omega) ⟨(rT (by first | exact hk.mpr ⟨h16', Or.inl h39⟩ | exact hk.mpr ⟨h16', Or.inr h64⟩ | exact fun h => (hk.mp h).2.elim h39 h64)), rfl⟩
    · first | refine y_ald_n E dX3_lookAlike_42 (by rfl) ?_ | refine y_aload_n E dX3_lookAlike_42 (by rfl) ?_
      refine y_iload_n E dX3_lookAlike_43 (by rfl) ?_
      refine y_bipush E dX3_lookAlike_44 (by decide) ?_
      refine y_callV E dX3_lookAlike_46 lk_X3_81 (m_ofTower hA ?_ ?_) (by rfl) (m_o hA _ _) rfl (by decide) (by omega) (by omega) rfl (Nat.le_of_ble_eq_true rfl) ?_ (fun _ _ _ h => h.elim)
      · omega
      · omega
      rintro _ _ ⟨rfl, rfl⟩
      rw [hs]
      refine y_iload_n E dX3_lookAlike_49 (by rfl) ?_
      refine y_callS E dX3_lookAlike_50 lk_X3_103 (m_backward ?_ ?_) (by rfl) (by decide) (by omega) (by omega) rfl (Nat.le_of_ble_eq_true rfl) ?_ (fun _ _ _ h => h.elim)
      · omega
      · omega
      rintro _ _ ⟨rfl, rfl⟩
      first | refine y_ald_n E dX3_lookAlike_53 (by rfl) ?_ | refine y_aload_n E dX3_lookAlike_53 (by rfl) ?_
      refine y_iload_n E dX3_lookAlike_54 (by rfl) ?_
      refine y_bipush E dX3_lookAlike_55 (by decide) ?_
      refine y_callV E dX3_lookAlike_57 lk_X3_81 (m_ofTower hA ?_ ?_) (by rfl) (m_o hA _ _) rfl (by decide) (by omega) (by omega) rfl (Nat.le_of_ble_eq_true rfl) ?_ (fun _ _ _ h => h.elim)
      · omega
      · omega
      rintro _ _ ⟨rfl, rfl⟩
      rw [ho]
      refine y_iload_n E dX3_lookAlike_60 (by rfl) ?_
      refine y_callS E dX3_lookAlike_61 lk_X3_100 (m_doesTurnInto ?_ ?_ ?_) (by rfl) (by decide) (by omega) (by omega) rfl (Nat.le_of_ble_eq_true rfl) ?_ (fun _ _ _ h => h.elim)
      · exact (hB (by omega) (by omega)).1
      · omega
      · omega
      rintro _ _ ⟨rfl, rfl⟩
      refine y_ifd_eq (tgt := 71) E dX3_lookAlike_64 (by decide) (fun h64 => ?_) (fun h64 => ?_)
      · refine y_iconst E dX3_lookAlike_71 ?_
        have h16' : tw (T 5) a 7 = tw (T 5) b 7 := by omega
        refine y_ireturn E F rfl rfl dX3_lookAlike_72 (by omega) (by omega) ⟨(rF (by first | exact hk.mpr ⟨h16', Or.inl h39⟩ | exact hk.mpr ⟨h16', Or.inr h64⟩ | exact fun h => (hk.mp h).2.elim h39 h64)), rfl⟩
      · refine y_iconst E dX3_lookAlike_67 ?_
        refine y_goto (tgt := 72) E dX3_lookAlike_68 (by decide) ?_
        have h16' : tw (T 5) a 7 = tw (T 5) b 7 := by omega
        refine y_ireturn E F rfl rfl dX3_lookAlike_72 (by omega) (by omega) ⟨(rT (by first | exact hk.mpr ⟨h16', Or.inl h39⟩ | exact hk.mpr ⟨h16', Or.inr h64⟩ | exact fun h => (hk.mp h).2.elim h39 h64)), rfl⟩
  · refine y_iconst E dX3_lookAlike_19 ?_
    refine y_ireturn E F rfl rfl dX3_lookAlike_20 (by omega) (by omega) ⟨rF (fun h => h16 (by have := (hk.mp h).1; omega)), rfl⟩
theorem m_canBeMistaken (hA : mA A) (hS : SH (T 5)) {a b : Int} (ha : 0 ≤ a ∧ a < 8) (hb : 0 ≤ b ∧ b < 8) (hPa : PO (T 5) a) (hPb : PO (T 5) b) : Ct_X3_canBeMistaken Γ 5 0 0 [.ref (A 0), .int (iI (a)), .int (iI (b))] (mH A T G) (fun v G' => v = some (.int (iI (b2i (dB (mistP (T 5) a b))))) ∧ G' = mH A T G) noX := by
  refine y_start (lv0 := [some (.ref (A 0)), some (.int (iI (a))), some (.int (iI (b))), none]) (nm := "canBeMistaken") (own := RX3) (by decide +kernel) rfl rfl (by exact Nat.le_of_ble_eq_true rfl) (by rfl) ?_
  intro Z Q E F
  have loop : alikeP (T 5) a b → ∀ p : Int, 0 ≤ p → p ≤ 61 → (∀ j, 0 ≤ j → j < p → ¬ (rchP (T 5) a j ∧ rchP (T 5) b j)) → Y Γ Z 0 0 Q (mH A T G) 13 [some (.ref (A 0)), some (.int (iI a)), some (.int (iI b)), some (.int (iI p))] [] := by
    intro hl
    refine loopDown 61 ?_
    intro p ih h0 h1 hj
    refine y_iload_n E dX3_canBeMistaken_13 (by rfl) ?_
    refine y_bipush E dX3_canBeMistaken_14 (by decide) ?_
    refine y_icmp_ge (tgt := 45) E dX3_canBeMistaken_16 (by decide) (by omega) (by omega) (fun h16 => ?_) (fun h16 => ?_)
    · refine y_iconst E dX3_canBeMistaken_45 ?_
      refine y_ireturn E F rfl rfl dX3_canBeMistaken_46 (by omega) (by omega) ⟨rF (by rintro ⟨_, q, h2, h3, h4, h5⟩; exact hj q h2 (by omega) ⟨h4, h5⟩), rfl⟩
    · first | refine y_ald_n E dX3_canBeMistaken_19 (by rfl) ?_ | refine y_aload_n E dX3_canBeMistaken_19 (by rfl) ?_
      refine y_iload_n E dX3_canBeMistaken_20 (by rfl) ?_
      refine y_iload_n E dX3_canBeMistaken_21 (by rfl) ?_
      refine y_callV E dX3_canBeMistaken_22 lk_X3_93 (m_doesReach hA ?_ ?_ ?_) (by rfl) (m_o hA _ _) rfl (by decide) (by omega) (by omega) rfl (Nat.le_of_ble_eq_true rfl) ?_ (fun _ _ _ h => h.elim)
      · exact hS
      · omega
      · omega
      rintro _ _ ⟨rfl, rfl⟩
      refine y_ifd_eq (tgt := 39) E dX3_canBeMistaken_25 (by decide) (fun h25 => ?_) (fun h25 => ?_)
      · refine y_iinc E dX3_canBeMistaken_39 (by rfl) ?_
        refine y_goto (tgt := 13) E dX3_canBeMistaken_42 (by decide) ?_
        exact ih (by omega) (by omega) (by omega) (low_s hj (fun q => by first | exact h25 q.1 | exact h34 q.2))
      · first | refine y_ald_n E dX3_canBeMistaken_28 (by rfl) ?_ | refine y_aload_n E dX3_canBeMistaken_28 (by rfl) ?_
        refine y_iload_n E dX3_canBeMistaken_29 (by rfl) ?_
        refine y_iload_n E dX3_canBeMistaken_30 (by rfl) ?_
        refine y_callV E dX3_canBeMistaken_31 lk_X3_93 (m_doesReach hA ?_ ?_ ?_) (by rfl) (m_o hA _ _) rfl (by decide) (by omega) (by omega) rfl (Nat.le_of_ble_eq_true rfl) ?_ (fun _ _ _ h => h.elim)
        · exact hS
        · omega
        · omega
        rintro _ _ ⟨rfl, rfl⟩
        refine y_ifd_eq (tgt := 39) E dX3_canBeMistaken_34 (by decide) (fun h34 => ?_) (fun h34 => ?_)
        · refine y_iinc E dX3_canBeMistaken_39 (by rfl) ?_
          refine y_goto (tgt := 13) E dX3_canBeMistaken_42 (by decide) ?_
          exact ih (by omega) (by omega) (by omega) (low_s hj (fun q => by first | exact h25 q.1 | exact h34 q.2))
        · refine y_iconst E dX3_canBeMistaken_37 ?_
          refine y_ireturn E F rfl rfl dX3_canBeMistaken_38 (by omega) (by omega) ⟨rT ⟨hl, p, by omega, by omega, h25, h34⟩, rfl⟩
  first | refine y_ald_n E dX3_canBeMistaken_0 (by rfl) ?_ | refine y_aload_n E dX3_canBeMistaken_0 (by rfl) ?_
  refine y_iload_n E dX3_canBeMistaken_1 (by rfl) ?_
  refine y_iload_n E dX3_canBeMistaken_2 (by rfl) ?_
  refine y_callV E dX3_canBeMistaken_3 lk_X3_106 (m_lookAlike hA ?_ ?_ ?_ ?_ ?_) (by rfl) (m_o hA _ _) rfl (by decide) (by omega) (by omega) rfl (Nat.le_of_ble_eq_true rfl) ?_ (fun _ _ _ h => h.elim)
  · exact hS
  · omega
  · omega
  · exact hPa
  · exact hPb
  rintro _ _ ⟨rfl, rfl⟩
  refine y_ifd_ne (tgt := 11) E dX3_canBeMistaken_6 (by decide) (fun h6 => ?_) (fun h6 => ?_)
  · refine y_iconst E dX3_canBeMistaken_11 ?_
    refine y_istore_n (j := 3) E dX3_canBeMistaken_12 rfl (Nat.le_of_ble_eq_true rfl) ?_
    exact loop h6 0 (by omega) (by omega) (fun j h1 h2 => by omega)
  · refine y_iconst E dX3_canBeMistaken_9 ?_
    refine y_ireturn E F rfl rfl dX3_canBeMistaken_10 (by omega) (by omega) ⟨rF (fun h => h6 h.1), rfl⟩
theorem m_mistakenOne (hA : mA A) (hS : SH (T 5)) (hU : UT (T 5)) : Ct_X3_mistakenOne Γ 6 0 0 [.ref (A 0)] (mH A T G) (fun v G' => v = some (.int (iI (misS (T 5)))) ∧ G' = mH A T G) noX := by
  refine y_start (lv0 := [some (.ref (A 0)), none, none]) (nm := "mistakenOne") (own := RX3) (by decide +kernel) rfl rfl (by exact Nat.le_of_ble_eq_true rfl) (by rfl) ?_
  intro Z Q E F
  have hS1 := hS.nt
  have outer : ∀ a : Int, ∀ lb : Option Value, 0 ≤ a → a ≤ T 5 10 → (∀ j k, 0 ≤ j → j < a → j < k → k < T 5 10 → ¬ prP (T 5) j k) → Y Γ Z 0 0 Q (mH A T G) 2 [some (.ref (A 0)), some (.int (iI a)), lb] [] := by
    refine loopDown (T 5 10) ?_
    intro a ih lb h0 h1 hj
    have hSa := fun h => hS.t h0 (show a < 8 from h)
    have inner : a < T 5 10 → ∀ b : Int, a < b → b ≤ T 5 10 → (∀ k, a < k → k < b → ¬ prP (T 5) a k) → Y Γ Z 0 0 Q (mH A T G) 17 [some (.ref (A 0)), some (.int (iI a)), some (.int (iI b))] [] := by
      intro ha
      refine loopDown (T 5 10) ?_
      intro b ih2 h2 h3 hk
      refine y_iload_n E dX3_mistakenOne_17 (by rfl) ?_
      first | refine y_ald_n E dX3_mistakenOne_18 (by rfl) ?_ | refine y_aload_n E dX3_mistakenOne_18 (by rfl) ?_
      refine y_get E dX3_mistakenOne_19 fl_X3_13_X3 (m_o hA _ _) (by rfl) ?_
      refine y_bipush E dX3_mistakenOne_22 (by decide) ?_
      refine y_iald E dX3_mistakenOne_24 (m_r5 hA _ _) (by omega) ?_
      refine y_icmp_ge (tgt := 61) E dX3_mistakenOne_25 (by decide) (by omega) (by omega) (fun h25 => ?_) (fun h25 => ?_)
      · refine y_iinc E dX3_mistakenOne_61 (by rfl) ?_
        refine y_goto (tgt := 2) E dX3_mistakenOne_64 (by decide) ?_
        refine ih (by omega) _ (by omega) (by omega) (fun j k q1 q2 q3 q4 => ?_)
        by_cases e : j = a
        · subst e
          first | exact hk k q3 (by omega) | exact fun q => h33 q.1
        · exact hj j k q1 (by omega) q3 q4
      · first | refine y_ald_n E dX3_mistakenOne_28 (by rfl) ?_ | refine y_aload_n E dX3_mistakenOne_28 (by rfl) ?_
        refine y_iload_n E dX3_mistakenOne_29 (by rfl) ?_
        refine y_callV E dX3_mistakenOne_30 lk_X3_109 (m_isLit hA ?_ ?_) (by rfl) (m_o hA _ _) rfl (by decide) (by omega) (by omega) rfl (Nat.le_of_ble_eq_true rfl) ?_ (fun _ _ _ h => h.elim)
        · exact hS
        · omega
        rintro _ _ ⟨rfl, rfl⟩
        refine y_ifd_eq (tgt := 61) E dX3_mistakenOne_33 (by decide) (fun h33 => ?_) (fun h33 => ?_)
        · refine y_iinc E dX3_mistakenOne_61 (by rfl) ?_
          refine y_goto (tgt := 2) E dX3_mistakenOne_64 (by decide) ?_
          refine ih (by omega) _ (by omega) (by omega) (fun j k q1 q2 q3 q4 => ?_)
          by_cases e : j = a
          · subst e
            first | exact hk k q3 (by omega) | exact fun q => h33 q.1
          · exact hj j k q1 (by omega) q3 q4
        · first | refine y_ald_n E dX3_mistakenOne_36 (by rfl) ?_ | refine y_aload_n E dX3_mistakenOne_36 (by rfl) ?_
          refine y_iload_n E dX3_mistakenOne_37 (by rfl) ?_
          refine y_callV E dX3_mistakenOne_38 lk_X3_109 (m_isLit hA ?_ ?_) (by rfl) (m_o hA _ _) rfl (by decide) (by omega) (by omega) rfl (Nat.le_of_ble_eq_true rfl) ?_ (fun _ _ _ h => h.elim)
          · exact hS
          · omega
          rintro _ _ ⟨rfl, rfl⟩
          refine y_ifd_eq (tgt := 55) E dX3_mistakenOne_41 (by decide) (fun h41 => ?_) (fun h41 => ?_)
          · refine y_iinc E dX3_mistakenOne_55 (by rfl) ?_
            refine y_goto (tgt := 17) E dX3_mistakenOne_58 (by decide) ?_
            refine ih2 (by omega) (by omega) (by omega) (fun k q1 q2 => ?_)
            by_cases e : k = b
            · subst e
              exact fun q => by first | exact h41 q.2.1 | exact h50 q.2.2
            · exact hk k q1 (by omega)
          · first | refine y_ald_n E dX3_mistakenOne_44 (by rfl) ?_ | refine y_aload_n E dX3_mistakenOne_44 (by rfl) ?_
            refine y_iload_n E dX3_mistakenOne_45 (by rfl) ?_
            refine y_iload_n E dX3_mistakenOne_46 (by rfl) ?_
            refine y_callV E dX3_mistakenOne_47 lk_X3_113 (m_canBeMistaken hA ?_ ?_ ?_ ?_ ?_) (by rfl) (m_o hA _ _) rfl (by decide) (by omega) (by omega) rfl (Nat.le_of_ble_eq_true rfl) ?_ (fun _ _ _ h => h.elim)
            · exact hS
            · omega
            · omega
            · exact hU a h0 ha
            · exact hU b (by omega) (by omega)
            rintro _ _ ⟨rfl, rfl⟩
            refine y_ifd_eq (tgt := 55) E dX3_mistakenOne_50 (by decide) (fun h50 => ?_) (fun h50 => ?_)
            · refine y_iinc E dX3_mistakenOne_55 (by rfl) ?_
              refine y_goto (tgt := 17) E dX3_mistakenOne_58 (by decide) ?_
              refine ih2 (by omega) (by omega) (by omega) (fun k q1 q2 => ?_)
              by_cases e : k = b
              · subst e
                exact fun q => by first | exact h41 q.2.1 | exact h50 q.2.2
              · exact hk k q1 (by omega)
            · refine y_iload_n E dX3_mistakenOne_53 (by rfl) ?_
              refine y_ireturn E F rfl rfl dX3_mistakenOne_54 (by omega) (by omega) ⟨rI (misS_eq (Or.inr ⟨a, h0, by omega, by omega, ⟨h33, h41, h50⟩, hk, hj⟩)).symm, rfl⟩
    refine y_iload_n E dX3_mistakenOne_2 (by rfl) ?_
    first | refine y_ald_n E dX3_mistakenOne_3 (by rfl) ?_ | refine y_aload_n E dX3_mistakenOne_3 (by rfl) ?_
    refine y_get E dX3_mistakenOne_4 fl_X3_13_X3 (m_o hA _ _) (by rfl) ?_
    refine y_bipush E dX3_mistakenOne_7 (by decide) ?_
    refine y_iald E dX3_mistakenOne_9 (m_r5 hA _ _) (by omega) ?_
    refine y_icmp_ge (tgt := 67) E dX3_mistakenOne_10 (by decide) (by omega) (by omega) (fun h10 => ?_) (fun h10 => ?_)
    · refine y_iconst E dX3_mistakenOne_67 ?_
      refine y_ireturn E F rfl rfl dX3_mistakenOne_68 (by omega) (by omega) ⟨rI (misS_eq (Or.inl ⟨rfl, fun j k q1 q2 q3 => hj j k q1 (by omega) q2 q3⟩)).symm, rfl⟩
    · refine y_iload_n E dX3_mistakenOne_13 (by rfl) ?_
      refine y_iconst E dX3_mistakenOne_14 ?_
      refine y_iadd E dX3_mistakenOne_15 ?_
      refine y_istore_n (j := 2) E dX3_mistakenOne_16 rfl (Nat.le_of_ble_eq_true rfl) ?_
      exact inner (by omega) _ (by omega) (by omega) (fun k q1 q2 => by omega)
  refine y_iconst E dX3_mistakenOne_0 ?_
  refine y_istore_n (j := 1) E dX3_mistakenOne_1 rfl (Nat.le_of_ble_eq_true rfl) ?_
  exact outer 0 _ (by omega) (by omega) (fun j k q1 q2 => by omega)
theorem m_towerAtPlace (hA : mA A) (hS : SH (T 5)) {p : Int} (hp : inR p) : Ct_X3_towerAtPlace Γ 3 0 0 [.ref (A 0), .int (iI (p))] (mH A T G) (fun v G' => v = some (.int (iI (fstI (fun t => tw (T 5) t 0 = p) (T 5 10)))) ∧ G' = mH A T G) noX := by
  refine y_start (lv0 := [some (.ref (A 0)), some (.int (iI (p))), none]) (nm := "towerAtPlace") (own := RX3) (by decide +kernel) rfl rfl (by exact Nat.le_of_ble_eq_true rfl) (by rfl) ?_
  intro Z Q E F
  have hS1 := hS.nt
  have loop : ∀ i : Int, 0 ≤ i → i ≤ T 5 10 → (∀ j, 0 ≤ j → j < i → ¬ (fun t => tw (T 5) t 0 = p) j) → Y Γ Z 0 0 Q (mH A T G) 2 [some (.ref (A 0)), some (.int (iI p)), some (.int (iI i))] [] := by
    refine loopDown (T 5 10) ?_
    intro i ih h0 h1 hj
    have hg : i < T 5 10 → 0 ≤ tw (T 5) i 0 ∧ tw (T 5) i 0 ≤ 60 := fun h => (hS.t h0 (by omega)).1
    refine y_iload_n E dX3_towerAtPlace_2 (by rfl) ?_
    first | refine y_ald_n E dX3_towerAtPlace_3 (by rfl) ?_ | refine y_aload_n E dX3_towerAtPlace_3 (by rfl) ?_
    refine y_get E dX3_towerAtPlace_4 fl_X3_13_X3 (m_o hA _ _) (by rfl) ?_
    refine y_bipush E dX3_towerAtPlace_7 (by decide) ?_
    refine y_iald E dX3_towerAtPlace_9 (m_r5 hA _ _) (by omega) ?_
    refine y_icmp_ge (tgt := 31) E dX3_towerAtPlace_10 (by decide) (by omega) (by omega) (fun h10 => ?_) (fun h10 => ?_)
    · refine y_iconst E dX3_towerAtPlace_31 ?_
      refine y_ireturn E F rfl rfl dX3_towerAtPlace_32 (by omega) (by omega) ⟨rI (fst_miss (by omega) (fun j q1 q2 => hj j q1 (by omega))).symm, rfl⟩
    · first | refine y_ald_n E dX3_towerAtPlace_13 (by rfl) ?_ | refine y_aload_n E dX3_towerAtPlace_13 (by rfl) ?_
      refine y_iload_n E dX3_towerAtPlace_14 (by rfl) ?_
      refine y_iconst E dX3_towerAtPlace_15 ?_
      refine y_callV E dX3_towerAtPlace_16 lk_X3_81 (m_ofTower hA ?_ ?_) (by rfl) (m_o hA _ _) rfl (by decide) (by omega) (by omega) rfl (Nat.le_of_ble_eq_true rfl) ?_ (fun _ _ _ h => h.elim)
      · omega
      · omega
      rintro _ _ ⟨rfl, rfl⟩
      refine y_iload_n E dX3_towerAtPlace_19 (by rfl) ?_
      refine y_icmp_ne (tgt := 25) E dX3_towerAtPlace_20 (by decide) (by omega) (by omega) (fun h20 => ?_) (fun h20 => ?_)
      · refine y_iinc E dX3_towerAtPlace_25 (by rfl) ?_
        refine y_goto (tgt := 2) E dX3_towerAtPlace_28 (by decide) ?_
        exact ih (by omega) (by omega) (by omega) (low_s hj (by assumption))
      · refine y_iload_n E dX3_towerAtPlace_23 (by rfl) ?_
        refine y_ireturn E F rfl rfl dX3_towerAtPlace_24 (by omega) (by omega) ⟨rI (fst_hit h0 (by omega) (by assumption) hj).symm, rfl⟩
  refine y_iconst E dX3_towerAtPlace_0 ?_
  refine y_istore_n (j := 2) E dX3_towerAtPlace_1 rfl (Nat.le_of_ble_eq_true rfl) ?_
  exact loop 0 (by omega) (by omega) (fun j h1 h2 => by omega)
theorem m_placeInStore (hA : mA A) (hS : SH (T 5)) {p : Int} (hp : inR p) : Ct_X3_placeInStore Γ 1 0 0 [.ref (A 0), .int (iI (p))] (mH A T G) (fun v G' => v = some (.int (iI (fstI (fun k => T 5 (13 + k) = p) (T 5 12)))) ∧ G' = mH A T G) noX := by
  refine y_start (lv0 := [some (.ref (A 0)), some (.int (iI (p))), none]) (nm := "placeInStore") (own := RX3) (by decide +kernel) rfl rfl (by exact Nat.le_of_ble_eq_true rfl) (by rfl) ?_
  intro Z Q E F
  have hS1 := hS.ns
  have loop : ∀ i : Int, 0 ≤ i → i ≤ T 5 12 → (∀ j, 0 ≤ j → j < i → ¬ (fun k => T 5 (13 + k) = p) j) → Y Γ Z 0 0 Q (mH A T G) 2 [some (.ref (A 0)), some (.int (iI p)), some (.int (iI i))] [] := by
    refine loopDown (T 5 12) ?_
    intro i ih h0 h1 hj
    have hg : i < T 5 12 → 0 ≤ T 5 (13 + i) ∧ T 5 (13 + i) ≤ 11 := fun h => hS.sto h0 (by omega)
    refine y_iload_n E dX3_placeInStore_2 (by rfl) ?_
    first | refine y_ald_n E dX3_placeInStore_3 (by rfl) ?_ | refine y_aload_n E dX3_placeInStore_3 (by rfl) ?_
    refine y_get E dX3_placeInStore_4 fl_X3_13_X3 (m_o hA _ _) (by rfl) ?_
    refine y_bipush E dX3_placeInStore_7 (by decide) ?_
    refine y_iald E dX3_placeInStore_9 (m_r5 hA _ _) (by omega) ?_
    refine y_icmp_ge (tgt := 34) E dX3_placeInStore_10 (by decide) (by omega) (by omega) (fun h10 => ?_) (fun h10 => ?_)
    · refine y_iconst E dX3_placeInStore_34 ?_
      refine y_ireturn E F rfl rfl dX3_placeInStore_35 (by omega) (by omega) ⟨rI (fst_miss (by omega) (fun j q1 q2 => hj j q1 (by omega))).symm, rfl⟩
    · first | refine y_ald_n E dX3_placeInStore_13 (by rfl) ?_ | refine y_aload_n E dX3_placeInStore_13 (by rfl) ?_
      refine y_get E dX3_placeInStore_14 fl_X3_13_X3 (m_o hA _ _) (by rfl) ?_
      refine y_bipush E dX3_placeInStore_17 (by decide) ?_
      refine y_iload_n E dX3_placeInStore_19 (by rfl) ?_
      refine y_iadd E dX3_placeInStore_20 ?_
      refine y_iald E dX3_placeInStore_21 (m_r5 hA _ _) (by omega) ?_
      refine y_iload_n E dX3_placeInStore_22 (by rfl) ?_
      refine y_icmp_ne (tgt := 28) E dX3_placeInStore_23 (by decide) (by omega) (by omega) (fun h23 => ?_) (fun h23 => ?_)
      · refine y_iinc E dX3_placeInStore_28 (by rfl) ?_
        refine y_goto (tgt := 2) E dX3_placeInStore_31 (by decide) ?_
        exact ih (by omega) (by omega) (by omega) (low_s hj (by assumption))
      · refine y_iload_n E dX3_placeInStore_26 (by rfl) ?_
        refine y_ireturn E F rfl rfl dX3_placeInStore_27 (by omega) (by omega) ⟨rI (fst_hit h0 (by omega) (by assumption) hj).symm, rfl⟩
  refine y_iconst E dX3_placeInStore_0 ?_
  refine y_istore_n (j := 2) E dX3_placeInStore_1 rfl (Nat.le_of_ble_eq_true rfl) ?_
  exact loop 0 (by omega) (by omega) (fun j h1 h2 => by omega)
theorem m_canSignal (hA : mA A) (hS : SH (T 5)) {a b : Int} (ha : 0 ≤ a ∧ a < 8) (hb : 0 ≤ b ∧ b < 8) : Ct_X3_canSignal Γ 5 0 0 [.ref (A 0), .int (iI (a)), .int (iI (b))] (mH A T G) (fun v G' => v = some (.int (iI (b2i (dB (csP (T 5) a b))))) ∧ G' = mH A T G) noX := by
  refine y_start (lv0 := [some (.ref (A 0)), some (.int (iI (a))), some (.int (iI (b)))]) (nm := "canSignal") (own := RX3) (by decide +kernel) rfl rfl (by exact Nat.le_of_ble_eq_true rfl) (by rfl) ?_
  intro Z Q E F
  have hS1 := hS.t ha.1 ha.2
  have hS2 := hS.t hb.1 hb.2
  refine y_iload_n E dX3_canSignal_0 (by rfl) ?_
  refine y_iload_n E dX3_canSignal_1 (by rfl) ?_
  refine y_icmp_eq (tgt := 40) E dX3_canSignal_2 (by decide) (by omega) (by omega) (fun h2 => ?_) (fun h2 => ?_)
  · refine y_iconst E dX3_canSignal_40 ?_
    refine y_ireturn E F rfl rfl dX3_canSignal_41 (by omega) (by omega) ⟨(rF (by unfold csP; first | exact ⟨h2, h10, h19, h33⟩ | exact fun h => h33 h.2.2.2 | exact fun h => h19 h.2.2.1 | exact fun h => h10 h.2.1 | exact fun h => h.1 h2)), rfl⟩
  · first | refine y_ald_n E dX3_canSignal_5 (by rfl) ?_ | refine y_aload_n E dX3_canSignal_5 (by rfl) ?_
    refine y_iload_n E dX3_canSignal_6 (by rfl) ?_
    refine y_callV E dX3_canSignal_7 lk_X3_109 (m_isLit hA ?_ ?_) (by rfl) (m_o hA _ _) rfl (by decide) (by omega) (by omega) rfl (Nat.le_of_ble_eq_true rfl) ?_ (fun _ _ _ h => h.elim)
    · exact hS
    · omega
    rintro _ _ ⟨rfl, rfl⟩
    refine y_ifd_eq (tgt := 40) E dX3_canSignal_10 (by decide) (fun h10 => ?_) (fun h10 => ?_)
    · refine y_iconst E dX3_canSignal_40 ?_
      refine y_ireturn E F rfl rfl dX3_canSignal_41 (by omega) (by omega) ⟨(rF (by unfold csP; first | exact ⟨h2, h10, h19, h33⟩ | exact fun h => h33 h.2.2.2 | exact fun h => h19 h.2.2.1 | exact fun h => h10 h.2.1 | exact fun h => h.1 h2)), rfl⟩
    · first | refine y_ald_n E dX3_canSignal_13 (by rfl) ?_ | refine y_aload_n E dX3_canSignal_13 (by rfl) ?_
      refine y_iload_n E dX3_canSignal_14 (by rfl) ?_
      refine y_iconst E dX3_canSignal_15 ?_
      refine y_callV E dX3_canSignal_16 lk_X3_81 (m_ofTower hA ?_ ?_) (by rfl) (m_o hA _ _) rfl (by decide) (by omega) (by omega) rfl (Nat.le_of_ble_eq_true rfl) ?_ (fun _ _ _ h => h.elim)
      · omega
      · omega
      rintro _ _ ⟨rfl, rfl⟩
      refine y_if_ne (tgt := 40) E dX3_canSignal_19 (by decide) (by omega) (fun h19 => ?_) (fun h19 => ?_)
      · refine y_iconst E dX3_canSignal_40 ?_
        refine y_ireturn E F rfl rfl dX3_canSignal_41 (by omega) (by omega) ⟨(rF (by unfold csP; first | exact ⟨h2, h10, h19, h33⟩ | exact fun h => h33 h.2.2.2 | exact fun h => h19 h.2.2.1 | exact fun h => h10 h.2.1 | exact fun h => h.1 h2)), rfl⟩
      · first | refine y_ald_n E dX3_canSignal_22 (by rfl) ?_ | refine y_aload_n E dX3_canSignal_22 (by rfl) ?_
        refine y_iload_n E dX3_canSignal_23 (by rfl) ?_
        first | refine y_ald_n E dX3_canSignal_24 (by rfl) ?_ | refine y_aload_n E dX3_canSignal_24 (by rfl) ?_
        refine y_iload_n E dX3_canSignal_25 (by rfl) ?_
        refine y_iconst E dX3_canSignal_26 ?_
        refine y_callV E dX3_canSignal_27 lk_X3_81 (m_ofTower hA ?_ ?_) (by rfl) (m_o hA _ _) rfl (by decide) (by omega) (by omega) rfl (Nat.le_of_ble_eq_true rfl) ?_ (fun _ _ _ h => h.elim)
        · omega
        · omega
        rintro _ _ ⟨rfl, rfl⟩
        refine y_callV E dX3_canSignal_30 lk_X3_93 (m_doesReach hA ?_ ?_ ?_) (by rfl) (m_o hA _ _) rfl (by decide) (by omega) (by omega) rfl (Nat.le_of_ble_eq_true rfl) ?_ (fun _ _ _ h => h.elim)
        · exact hS
        · omega
        · omega
        rintro _ _ ⟨rfl, rfl⟩
        refine y_ifd_eq (tgt := 40) E dX3_canSignal_33 (by decide) (fun h33 => ?_) (fun h33 => ?_)
        · refine y_iconst E dX3_canSignal_40 ?_
          refine y_ireturn E F rfl rfl dX3_canSignal_41 (by omega) (by omega) ⟨(rF (by unfold csP; first | exact ⟨h2, h10, h19, h33⟩ | exact fun h => h33 h.2.2.2 | exact fun h => h19 h.2.2.1 | exact fun h => h10 h.2.1 | exact fun h => h.1 h2)), rfl⟩
        · refine y_iconst E dX3_canSignal_36 ?_
          refine y_goto (tgt := 41) E dX3_canSignal_37 (by decide) ?_
          refine y_ireturn E F rfl rfl dX3_canSignal_41 (by omega) (by omega) ⟨(rT (by unfold csP; first | exact ⟨h2, h10, h19, h33⟩ | exact fun h => h33 h.2.2.2 | exact fun h => h19 h.2.2.1 | exact fun h => h10 h.2.1 | exact fun h => h.1 h2)), rfl⟩
theorem m_marginOf (hA : mA A) (hS : SH (T 5)) {a b : Int} (ha : 0 ≤ a ∧ a < 8) (hb : 0 ≤ b ∧ b < 8) : Ct_X3_marginOf Γ 4 0 0 [.ref (A 0), .int (iI (a)), .int (iI (b))] (mH A T G) (fun v G' => v = some (.int (iI (marS (T 5) a b))) ∧ G' = mH A T G) noX := by
  refine y_start (lv0 := [some (.ref (A 0)), some (.int (iI (a))), some (.int (iI (b)))]) (nm := "marginOf") (own := RX3) (by decide +kernel) rfl rfl (by exact Nat.le_of_ble_eq_true rfl) (by rfl) ?_
  intro Z Q E F
  have hS1 := hS.t ha.1 ha.2
  have hS2 := hS.t hb.1 hb.2
  first | refine y_ald_n E dX3_marginOf_0 (by rfl) ?_ | refine y_aload_n E dX3_marginOf_0 (by rfl) ?_
  refine y_iload_n E dX3_marginOf_1 (by rfl) ?_
  refine y_callV E dX3_marginOf_2 lk_X3_90 (m_powerOf hA ?_ ?_) (by rfl) (m_o hA _ _) rfl (by decide) (by omega) (by omega) rfl (Nat.le_of_ble_eq_true rfl) ?_ (fun _ _ _ h => h.elim)
  · exact hS
  · omega
  rintro _ _ ⟨rfl, rfl⟩
  first | refine y_ald_n E dX3_marginOf_5 (by rfl) ?_ | refine y_aload_n E dX3_marginOf_5 (by rfl) ?_
  first | refine y_ald_n E dX3_marginOf_6 (by rfl) ?_ | refine y_aload_n E dX3_marginOf_6 (by rfl) ?_
  refine y_iload_n E dX3_marginOf_7 (by rfl) ?_
  refine y_iconst E dX3_marginOf_8 ?_
  refine y_callV E dX3_marginOf_9 lk_X3_81 (m_ofTower hA ?_ ?_) (by rfl) (m_o hA _ _) rfl (by decide) (by omega) (by omega) rfl (Nat.le_of_ble_eq_true rfl) ?_ (fun _ _ _ h => h.elim)
  · omega
  · omega
  rintro _ _ ⟨rfl, rfl⟩
  first | refine y_ald_n E dX3_marginOf_12 (by rfl) ?_ | refine y_aload_n E dX3_marginOf_12 (by rfl) ?_
  refine y_iload_n E dX3_marginOf_13 (by rfl) ?_
  refine y_iconst E dX3_marginOf_14 ?_
  refine y_callV E dX3_marginOf_15 lk_X3_81 (m_ofTower hA ?_ ?_) (by rfl) (m_o hA _ _) rfl (by decide) (by omega) (by omega) rfl (Nat.le_of_ble_eq_true rfl) ?_ (fun _ _ _ h => h.elim)
  · omega
  · omega
  rintro _ _ ⟨rfl, rfl⟩
  refine y_callV E dX3_marginOf_18 lk_X3_87 (m_costOf hA ?_ ?_) (by rfl) (m_o hA _ _) rfl (by decide) (by omega) (by omega) rfl (Nat.le_of_ble_eq_true rfl) ?_ (fun _ _ _ h => h.elim)
  · omega
  · omega
  rintro _ _ ⟨rfl, rfl⟩
  refine y_isub E dX3_marginOf_21 ?_
  refine y_ireturn E F rfl rfl dX3_marginOf_22 (by omega) (by omega) ⟨(rI (by rfl)), rfl⟩
end Tw3
