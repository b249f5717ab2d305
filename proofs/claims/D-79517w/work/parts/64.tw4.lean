/-! ===== the twin: watchers, farthest places, mistakes ===== -/
theorem loopUp {P : Int → Prop} (B : Int) (h : ∀ i, (B < i → P (i - 1)) → P i) : ∀ i, P i := by
  have : ∀ (d : Nat) (i : Int), i - B ≤ d → P i := by
    intro d
    induction d with
    | zero => intro i hi; exact h i (fun q => by omega)
    | succ d ih => intro i hi; exact h i (fun q => ih (i - 1) (by omega))
  exact fun i => this (i - B).toNat i (by omega)
section Rw4
theorem sumI_z {f : Int → Int} {n : Int} (h : ∀ k, 0 ≤ k → k < n → f k = 0) (hn : 0 ≤ n) : sumI f n = 0 := by
  have := sumI_b (f := f) (n := n) (m := 0) (fun k h1 h2 => by rw [h k h1 h2]; omega) hn
  omega
def wcP (w : Int → Int) (p t : Int) : Prop := tw w t 4 = 1 ∧ rchP w t p
noncomputable def wcC (w : Int → Int) (p t : Int) : Int := costS w (tw w t 0) p
/-- the first one of the least cost among those below i -/
def watQ (w : Int → Int) (p i r : Int) : Prop := (r = -1 ∧ ∀ j, 0 ≤ j → j < i → ¬ wcP w p j) ∨ (0 ≤ r ∧ r < i ∧ wcP w p r ∧ (∀ j, 0 ≤ j → j < i → wcP w p j → wcC w p r ≤ wcC w p j) ∧ ∀ j, 0 ≤ j → j < r → wcP w p j → wcC w p r < wcC w p j)
theorem watQ_0 (w : Int → Int) (p : Int) : watQ w p 0 (-1) := Or.inl ⟨rfl, fun j h1 h2 => by omega⟩
theorem watQ_skip {w : Int → Int} {p i r : Int} (h : watQ w p i r) (hs : wcP w p i → 0 ≤ r ∧ wcC w p r ≤ wcC w p i) : watQ w p (i + 1) r := by
  rcases h with ⟨h1, h2⟩ | ⟨h1, h2, h3, h4, h5⟩
  · exact Or.inl ⟨h1, low_s h2 (fun q => by have := (hs q).1; omega)⟩
  · refine Or.inr ⟨h1, by omega, h3, fun j q1 q2 q3 => ?_, h5⟩
    by_cases e : j = i
    · subst e
      exact (hs q3).2
    · exact h4 j q1 (by omega) q3
theorem watQ_take {w : Int → Int} {p i r : Int} (hi : 0 ≤ i) (h : watQ w p i r) (hp : wcP w p i) (hs : 0 ≤ r → wcC w p i < wcC w p r) : watQ w p (i + 1) i := by
  rcases h with ⟨h1, h2⟩ | ⟨h1, h2, h3, h4, h5⟩
  · refine Or.inr ⟨hi, by omega, hp, fun j q1 q2 q3 => ?_, fun j q1 q2 q3 => absurd q3 (h2 j q1 q2)⟩
    by_cases e : j = i
    · subst e
      exact Int.le_refl _
    · exact absurd q3 (h2 j q1 (by omega))
  · have hs := hs h1
    refine Or.inr ⟨hi, by omega, hp, fun j q1 q2 q3 => ?_, fun j q1 q2 q3 => ?_⟩
    · by_cases e : j = i
      · subst e
        exact Int.le_refl _
      · have := h4 j q1 (by omega) q3
        omega
    · have := h4 j q1 (by omega) q3
      omega
theorem watQ_u {w : Int → Int} {p i r s : Int} (h : watQ w p i r) (h' : watQ w p i s) : r = s := by
  rcases h with ⟨h1, h2⟩ | ⟨h1, h2, h3, h4, h5⟩
  · rcases h' with ⟨g1, g2⟩ | ⟨g1, g2, g3, g4, g5⟩
    · omega
    · exact absurd g3 (h2 s g1 g2)
  · rcases h' with ⟨g1, g2⟩ | ⟨g1, g2, g3, g4, g5⟩
    · exact absurd h3 (g2 r h1 h2)
    · have a := h4 s g1 g2 g3
      have b := g4 r h1 h2 h3
      by_cases e : r < s
      · have := g5 r h1 e h3
        omega
      · by_cases e2 : s < r
        · have := h5 s g1 e2 g3
          omega
        · omega
/-- who watches a place; -1: nobody -/
noncomputable def watS (w : Int → Int) (p : Int) : Int := theI (watQ w p (w 10))
theorem watS_eq {w : Int → Int} {p r : Int} (h : watQ w p (w 10) r) : watS w p = r := the_eq (fun _ _ => watQ_u) h
theorem watQ_ex (w : Int → Int) (p : Int) : ∀ i, 0 ≤ i → ∃ r, watQ w p i r := by
  apply intUp
  · exact ⟨-1, watQ_0 w p⟩
  · rintro i hi ⟨r, h⟩
    by_cases hc : wcP w p i ∧ (0 ≤ r → wcC w p i < wcC w p r)
    · exact ⟨i, watQ_take hi h hc.1 hc.2⟩
    · refine ⟨r, watQ_skip h (fun q => ?_)⟩
      by_cases e : 0 ≤ r
      · exact ⟨e, by have : ¬ wcC w p i < wcC w p r := fun z => hc ⟨q, fun _ => z⟩; omega⟩
      · exact absurd ⟨q, fun z => absurd z e⟩ hc
theorem watS_ok {w : Int → Int} (h : 0 ≤ w 10) (p : Int) : watQ w p (w 10) (watS w p) := the_ok (watQ_ex w p _ h)
theorem watS_in {w : Int → Int} (hS : SH w) (p : Int) : -1 ≤ watS w p ∧ watS w p < 8 := by
  have h1 := hS.nt
  rcases watS_ok h1.1 p with ⟨h, -⟩ | ⟨h, h2, -⟩ <;> omega
/-- the farthest place upward, and downward -/
def farU (w : Int → Int) (t r : Int) : Prop := tw w t 0 ≤ r ∧ r ≤ 60 ∧ (∀ q, tw w t 0 < q → q ≤ r → rchP w t q) ∧ ¬ (r < 60 ∧ rchP w t (r + 1))
def farD (w : Int → Int) (t r : Int) : Prop := 0 ≤ r ∧ r ≤ tw w t 0 ∧ (∀ q, r ≤ q → q < tw w t 0 → rchP w t q) ∧ ¬ (0 < r ∧ rchP w t (r - 1))
theorem farU_u {w : Int → Int} {t r s : Int} (h : farU w t r) (h' : farU w t s) : r = s := by
  obtain ⟨h1, h2, h3, h4⟩ := h
  obtain ⟨g1, g2, g3, g4⟩ := h'
  by_cases e : r < s
  · exact absurd ⟨by omega, g3 (r + 1) (by omega) (by omega)⟩ h4
  · by_cases e2 : s < r
    · exact absurd ⟨by omega, h3 (s + 1) (by omega) (by omega)⟩ g4
    · omega
theorem farD_u {w : Int → Int} {t r s : Int} (h : farD w t r) (h' : farD w t s) : r = s := by
  obtain ⟨h1, h2, h3, h4⟩ := h
  obtain ⟨g1, g2, g3, g4⟩ := h'
  by_cases e : s < r
  · exact absurd ⟨by omega, g3 (r - 1) (by omega) (by omega)⟩ h4
  · by_cases e2 : r < s
    · exact absurd ⟨by omega, h3 (s - 1) (by omega) (by omega)⟩ g4
    · omega
noncomputable def farUS (w : Int → Int) (t : Int) : Int := theI (farU w t)
noncomputable def farDS (w : Int → Int) (t : Int) : Int := theI (farD w t)
theorem farUS_ok {w : Int → Int} {t : Int} (h : 0 ≤ tw w t 0 ∧ tw w t 0 ≤ 60) : farU w t (farUS w t) := by
  apply the_ok
  have : ∀ p, tw w t 0 ≤ p → p ≤ 60 → (∀ q, tw w t 0 < q → q ≤ p → rchP w t q) → ∃ r, farU w t r := by
    refine loopDown 60 ?_
    intro p ih h1 h2 h3
    by_cases e : p < 60 ∧ rchP w t (p + 1)
    · refine ih e.1 (by omega) (by omega) (fun q q1 q2 => ?_)
      by_cases e2 : q = p + 1
      · subst e2
        exact e.2
      · exact h3 q q1 (by omega)
    · exact ⟨p, h1, h2, h3, e⟩
  exact this _ (Int.le_refl _) h.2 (fun q q1 q2 => by omega)
theorem farDS_ok {w : Int → Int} {t : Int} (h : 0 ≤ tw w t 0 ∧ tw w t 0 ≤ 60) : farD w t (farDS w t) := by
  apply the_ok
  have : ∀ p, p ≤ tw w t 0 → 0 ≤ p → (∀ q, p ≤ q → q < tw w t 0 → rchP w t q) → ∃ r, farD w t r := by
    refine loopUp 0 ?_
    intro p ih h1 h2 h3
    by_cases e : 0 < p ∧ rchP w t (p - 1)
    · refine ih e.1 (by omega) (by omega) (fun q q1 q2 => ?_)
      by_cases e2 : q = p - 1
      · subst e2
        exact e.2
      · exact h3 q (by omega) q2
    · exact ⟨p, h2, h1, h3, e⟩
  exact this _ (Int.le_refl _) h.1 (fun q q1 q2 => by omega)
/-- is a place watched, by stretches -/
def strP (w : Int → Int) (p : Int) : Prop := ∃ t, 0 ≤ t ∧ t < w 10 ∧ tw w t 4 = 1 ∧ farDS w t ≤ p ∧ p ≤ farUS w t
end Rw4
section Tw4
variable {Γ : yG} {A : Nat → Nat} {T : Nat → Int → Int} {G : yH}
set_option maxHeartbeats 4000000
theorem m_watcherOf (hA : mA A) (hS : SH (T 5)) {p : Int} (hp : 0 ≤ p ∧ p ≤ 60) : Ct_X3_watcherOf Γ 5 0 0 [.ref (A 0), .int (iI (p))] (mH A T G) (fun v G' => v = some (.int (iI (watS (T 5) p))) ∧ G' = mH A T G) noX := by
  refine y_start (lv0 := [some (.ref (A 0)), some (.int (iI (p))), none, none, none]) (nm := "watcherOf") (own := RX3) (by decide +kernel) rfl rfl (by exact Nat.le_of_ble_eq_true rfl) (by rfl) ?_
  intro Z Q E F
  have hS1 := hS.nt
  have loop : ∀ i : Int, ∀ b x : Int, 0 ≤ i → i ≤ T 5 10 → watQ (T 5) p i b → (b = -1 ∧ x = 1000 ∨ 0 ≤ b ∧ x = wcC (T 5) p b) → -1000 ≤ x ∧ x ≤ 1000 → Y Γ Z 0 0 Q (mH A T G) 9 [some (.ref (A 0)), some (.int (iI p)), some (.int (iI b)), some (.int (iI x)), some (.int (iI i))] [] := by
    refine loopDown (T 5 10) ?_
    intro i ih b x h0 h1 hq hx hxx
    have hg := fun (h : i < T 5 10) => hS.t h0 (show i < 8 by omega)
    have hc := fun (h : i < T 5 10) => hS.cost (a := tw (T 5) i 0) (b := p) (by have := hg h; omega) hp
    refine y_iload E dX3_watcherOf_9 (by rfl) ?_
    first | refine y_ald_n E dX3_watcherOf_11 (by rfl) ?_ | refine y_aload_n E dX3_watcherOf_11 (by rfl) ?_
    refine y_get E dX3_watcherOf_12 fl_X3_13_X3 (m_o hA _ _) (by rfl) ?_
    refine y_bipush E dX3_watcherOf_15 (by decide) ?_
    refine y_iald E dX3_watcherOf_17 (m_r5 hA _ _) (by omega) ?_
    refine y_icmp_ge (tgt := 81) E dX3_watcherOf_18 (by decide) (by omega) (by omega) (fun h18 => ?_) (fun h18 => ?_)
    · refine y_iload_n E dX3_watcherOf_81 (by rfl) ?_
      refine y_ireturn E F rfl rfl dX3_watcherOf_82 (by omega) (by omega) ⟨rI (watS_eq (by rw [show T 5 10 = i by omega]; exact hq)).symm, rfl⟩
    · first | refine y_ald_n E dX3_watcherOf_21 (by rfl) ?_ | refine y_aload_n E dX3_watcherOf_21 (by rfl) ?_
      refine y_iload E dX3_watcherOf_22 (by rfl) ?_
      refine y_callV E dX3_watcherOf_24 lk_X3_109 (m_isLit hA ?_ ?_) (by rfl) (m_o hA _ _) rfl (by decide) (by omega) (by omega) rfl (Nat.le_of_ble_eq_true rfl) ?_ (fun _ _ _ h => h.elim)
      · exact hS
      · omega
      rintro _ _ ⟨rfl, rfl⟩
      refine y_ifd_eq (tgt := 75) E dX3_watcherOf_27 (by decide) (fun h27 => ?_) (fun h27 => ?_)
      · refine y_iinc E dX3_watcherOf_75 (by rfl) ?_
        refine y_goto (tgt := 9) E dX3_watcherOf_78 (by decide) ?_
        first
          | exact ih (by omega) _ _ (by omega) (by omega) (watQ_take h0 hq ⟨h27, h37⟩ (fun q => by show costS _ _ _ < _; omega)) (Or.inr ⟨h0, rfl⟩) (by omega)
          | exact ih (by omega) _ _ (by omega) (by omega) (watQ_skip hq (fun q => by first | exact absurd q.1 h27 | exact absurd q.2 h37 | (show _ ∧ _ ≤ costS _ _ _; omega))) hx hxx
      · first | refine y_ald_n E dX3_watcherOf_30 (by rfl) ?_ | refine y_aload_n E dX3_watcherOf_30 (by rfl) ?_
        refine y_iload E dX3_watcherOf_31 (by rfl) ?_
        refine y_iload_n E dX3_watcherOf_33 (by rfl) ?_
        refine y_callV E dX3_watcherOf_34 lk_X3_93 (m_doesReach hA ?_ ?_ ?_) (by rfl) (m_o hA _ _) rfl (by decide) (by omega) (by omega) rfl (Nat.le_of_ble_eq_true rfl) ?_ (fun _ _ _ h => h.elim)
        · exact hS
        · omega
        · omega
        rintro _ _ ⟨rfl, rfl⟩
        refine y_ifd_eq (tgt := 75) E dX3_watcherOf_37 (by decide) (fun h37 => ?_) (fun h37 => ?_)
        · refine y_iinc E dX3_watcherOf_75 (by rfl) ?_
          refine y_goto (tgt := 9) E dX3_watcherOf_78 (by decide) ?_
          first
            | exact ih (by omega) _ _ (by omega) (by omega) (watQ_take h0 hq ⟨h27, h37⟩ (fun q => by show costS _ _ _ < _; omega)) (Or.inr ⟨h0, rfl⟩) (by omega)
            | exact ih (by omega) _ _ (by omega) (by omega) (watQ_skip hq (fun q => by first | exact absurd q.1 h27 | exact absurd q.2 h37 | (show _ ∧ _ ≤ costS _ _ _; omega))) hx hxx
        · first | refine y_ald_n E dX3_watcherOf_40 (by rfl) ?_ | refine y_aload_n E dX3_watcherOf_40 (by rfl) ?_
          first | refine y_ald_n E dX3_watcherOf_41 (by rfl) ?_ | refine y_aload_n E dX3_watcherOf_41 (by rfl) ?_
          refine y_iload E dX3_watcherOf_42 (by rfl) ?_
          refine y_iconst E dX3_watcherOf_44 ?_
          refine y_callV E dX3_watcherOf_45 lk_X3_81 (m_ofTower hA ?_ ?_) (by rfl) (m_o hA _ _) rfl (by decide) (by omega) (by omega) rfl (Nat.le_of_ble_eq_true rfl) ?_ (fun _ _ _ h => h.elim)
          · omega
          · omega
          rintro _ _ ⟨rfl, rfl⟩
          refine y_iload_n E dX3_watcherOf_48 (by rfl) ?_
          refine y_callV E dX3_watcherOf_49 lk_X3_87 (m_costOf hA ?_ ?_) (by rfl) (m_o hA _ _) rfl (by decide) (by omega) (by omega) rfl (Nat.le_of_ble_eq_true rfl) ?_ (fun _ _ _ h => h.elim)
          · omega
          · omega
          rintro _ _ ⟨rfl, rfl⟩
          refine y_iload_n E dX3_watcherOf_52 (by rfl) ?_
          refine y_icmp_lt (tgt := 59) E dX3_watcherOf_53 (by decide) (by omega) (by omega) (fun h53 => ?_) (fun h53 => ?_)
          · refine y_iload E dX3_watcherOf_59 (by rfl) ?_
            refine y_istore_n (j := 2) E dX3_watcherOf_61 rfl (Nat.le_of_ble_eq_true rfl) ?_
            first | refine y_ald_n E dX3_watcherOf_62 (by rfl) ?_ | refine y_aload_n E dX3_watcherOf_62 (by rfl) ?_
            first | refine y_ald_n E dX3_watcherOf_63 (by rfl) ?_ | refine y_aload_n E dX3_watcherOf_63 (by rfl) ?_
            refine y_iload E dX3_watcherOf_64 (by rfl) ?_
            refine y_iconst E dX3_watcherOf_66 ?_
            refine y_callV E dX3_watcherOf_67 lk_X3_81 (m_ofTower hA ?_ ?_) (by rfl) (m_o hA _ _) rfl (by decide) (by omega) (by omega) rfl (Nat.le_of_ble_eq_true rfl) ?_ (fun _ _ _ h => h.elim)
            · omega
            · omega
            rintro _ _ ⟨rfl, rfl⟩
            refine y_iload_n E dX3_watcherOf_70 (by rfl) ?_
            refine y_callV E dX3_watcherOf_71 lk_X3_87 (m_costOf hA ?_ ?_) (by rfl) (m_o hA _ _) rfl (by decide) (by omega) (by omega) rfl (Nat.le_of_ble_eq_true rfl) ?_ (fun _ _ _ h => h.elim)
            · omega
            · omega
            rintro _ _ ⟨rfl, rfl⟩
            refine y_istore_n (j := 3) E dX3_watcherOf_74 rfl (Nat.le_of_ble_eq_true rfl) ?_
            refine y_iinc E dX3_watcherOf_75 (by rfl) ?_
            refine y_goto (tgt := 9) E dX3_watcherOf_78 (by decide) ?_
            first
              | exact ih (by omega) _ _ (by omega) (by omega) (watQ_take h0 hq ⟨h27, h37⟩ (fun q => by show costS _ _ _ < _; omega)) (Or.inr ⟨h0, rfl⟩) (by omega)
              | exact ih (by omega) _ _ (by omega) (by omega) (watQ_skip hq (fun q => by first | exact absurd q.1 h27 | exact absurd q.2 h37 | (show _ ∧ _ ≤ costS _ _ _; omega))) hx hxx
          · refine y_goto (tgt := 75) E dX3_watcherOf_56 (by decide) ?_
            refine y_iinc E dX3_watcherOf_75 (by rfl) ?_
            refine y_goto (tgt := 9) E dX3_watcherOf_78 (by decide) ?_
            first
              | exact ih (by omega) _ _ (by omega) (by omega) (watQ_take h0 hq ⟨h27, h37⟩ (fun q => by show costS _ _ _ < _; omega)) (Or.inr ⟨h0, rfl⟩) (by omega)
              | exact ih (by omega) _ _ (by omega) (by omega) (watQ_skip hq (fun q => by first | exact absurd q.1 h27 | exact absurd q.2 h37 | (show _ ∧ _ ≤ costS _ _ _; omega))) hx hxx
  refine y_iconst E dX3_watcherOf_0 ?_
  refine y_istore_n (j := 2) E dX3_watcherOf_1 rfl (Nat.le_of_ble_eq_true rfl) ?_
  refine y_sipush E dX3_watcherOf_2 (by decide) ?_
  refine y_istore_n (j := 3) E dX3_watcherOf_5 rfl (Nat.le_of_ble_eq_true rfl) ?_
  refine y_iconst E dX3_watcherOf_6 ?_
  refine y_istore E dX3_watcherOf_7 (Nat.le_of_ble_eq_true rfl) ?_
  exact loop 0 _ _ (by omega) (by omega) (watQ_0 _ _) (Or.inl ⟨rfl, rfl⟩) (by omega)
theorem m_watchedBy (hA : mA A) (hS : SH (T 5)) {t : Int} (ht : inR t) : Ct_X3_watchedBy Γ 6 0 0 [.ref (A 0), .int (iI (t))] (mH A T G) (fun v G' => v = some (.int (iI (sumI (fun p => b2i (dB (watS (T 5) p = t))) 61))) ∧ G' = mH A T G) noX := by
  refine y_start (lv0 := [some (.ref (A 0)), some (.int (iI (t))), none, none]) (nm := "watchedBy") (own := RX3) (by decide +kernel) rfl rfl (by exact Nat.le_of_ble_eq_true rfl) (by rfl) ?_
  intro Z Q E F
  have loop : ∀ i n : Int, 0 ≤ i → i ≤ 61 → n = sumI (fun p => b2i (dB (watS (T 5) p = t))) i → Y Γ Z 0 0 Q (mH A T G) 4 [some (.ref (A 0)), some (.int (iI t)), some (.int (iI n)), some (.int (iI i))] [] := by
    refine loopDown (61) ?_
    intro i ih n h0 h1 hn
    have hg := watS_in hS i
    refine y_iload_n E dX3_watchedBy_4 (by rfl) ?_
    refine y_bipush E dX3_watchedBy_5 (by decide) ?_
    refine y_icmp_ge (tgt := 33) E dX3_watchedBy_7 (by decide) (by omega) (by omega) (fun h7 => ?_) (fun h7 => ?_)
    · refine y_iload_n E dX3_watchedBy_33 (by rfl) ?_
      refine y_ireturn E F rfl rfl dX3_watchedBy_34 (by omega) (by omega) ⟨(rI (by rw [hn, show i = 61 by omega])), rfl⟩
    · refine y_iload_n E dX3_watchedBy_10 (by rfl) ?_
      first | refine y_ald_n E dX3_watchedBy_11 (by rfl) ?_ | refine y_aload_n E dX3_watchedBy_11 (by rfl) ?_
      refine y_iload_n E dX3_watchedBy_12 (by rfl) ?_
      refine y_callV E dX3_watchedBy_13 lk_X3_204 (m_watcherOf hA ?_ ?_) (by rfl) (m_o hA _ _) rfl (by decide) (by omega) (by omega) rfl (Nat.le_of_ble_eq_true rfl) ?_ (fun _ _ _ h => h.elim)
      · exact hS
      · omega
      rintro _ _ ⟨rfl, rfl⟩
      refine y_iload_n E dX3_watchedBy_16 (by rfl) ?_
      refine y_icmp_ne (tgt := 24) E dX3_watchedBy_17 (by decide) (by omega) (by omega) (fun h17 => ?_) (fun h17 => ?_)
      · refine y_iconst E dX3_watchedBy_24 ?_
        refine y_iadd E dX3_watchedBy_25 ?_
        refine y_istore_n (j := 2) E dX3_watchedBy_26 rfl (Nat.le_of_ble_eq_true rfl) ?_
        refine y_iinc E dX3_watchedBy_27 (by rfl) ?_
        refine y_goto (tgt := 4) E dX3_watchedBy_30 (by decide) ?_
        exact ih (by omega) _ (by omega) (by omega) (by rw [sumI_s h0, hn]; first | done | rfl | (show _ = _ + b2i (dB _); first | rw [b2i_dt (by assumption)] | rw [b2i_df (by assumption)]))
      · refine y_iconst E dX3_watchedBy_20 ?_
        refine y_goto (tgt := 25) E dX3_watchedBy_21 (by decide) ?_
        refine y_iadd E dX3_watchedBy_25 ?_
        refine y_istore_n (j := 2) E dX3_watchedBy_26 rfl (Nat.le_of_ble_eq_true rfl) ?_
        refine y_iinc E dX3_watchedBy_27 (by rfl) ?_
        refine y_goto (tgt := 4) E dX3_watchedBy_30 (by decide) ?_
        exact ih (by omega) _ (by omega) (by omega) (by rw [sumI_s h0, hn]; first | done | rfl | (show _ = _ + b2i (dB _); first | rw [b2i_dt (by assumption)] | rw [b2i_df (by assumption)]))
  refine y_iconst E dX3_watchedBy_0 ?_
  refine y_istore_n (j := 2) E dX3_watchedBy_1 rfl (Nat.le_of_ble_eq_true rfl) ?_
  refine y_iconst E dX3_watchedBy_2 ?_
  refine y_istore_n (j := 3) E dX3_watchedBy_3 rfl (Nat.le_of_ble_eq_true rfl) ?_
  exact loop 0 0 (by omega) (by omega) (sumI_0 _).symm
theorem m_farPlace_u (hA : mA A) (hS : SH (T 5)) {t : Int} (ht : 0 ≤ t ∧ t < 8) : Ct_X3_farPlace Γ 5 0 0 [.ref (A 0), .int (iI (t)), .int (iI (1))] (mH A T G) (fun v G' => v = some (.int (iI (farUS (T 5) t))) ∧ G' = mH A T G) noX := by
  refine y_start (lv0 := [some (.ref (A 0)), some (.int (iI (t))), some (.int (iI (1))), none]) (nm := "farPlace") (own := RX3) (by decide +kernel) rfl rfl (by exact Nat.le_of_ble_eq_true rfl) (by rfl) ?_
  intro Z Q E F
  have hS1 := hS.t ht.1 ht.2
  have loop : ∀ p : Int, tw (T 5) t 0 ≤ p → p ≤ 60 → (∀ q, tw (T 5) t 0 < q → q ≤ p → rchP (T 5) t q) → Y Γ Z 0 0 Q (mH A T G) 7 [some (.ref (A 0)), some (.int (iI t)), some (.int (iI 1)), some (.int (iI p))] [] := by
    refine loopDown 60 ?_
    intro p ih h0 h1 h2
    refine y_iload_n E dX3_farPlace_7 (by rfl) ?_
    refine y_iload_n E dX3_farPlace_8 (by rfl) ?_
    refine y_iadd E dX3_farPlace_9 ?_
    refine y_callS E dX3_farPlace_10 lk_X3_126 (m_isPlace ?_) (by rfl) (by decide) (by omega) (by omega) rfl (Nat.le_of_ble_eq_true rfl) ?_ (fun _ _ _ h => h.elim)
    · omega
    rintro _ _ ⟨rfl, rfl⟩
    refine y_ifd_eq (tgt := 34) E dX3_farPlace_13 (by decide) (fun h13 => ?_) (fun h13 => ?_)
    · refine y_iload_n E dX3_farPlace_34 (by rfl) ?_
      refine y_ireturn E F rfl rfl dX3_farPlace_35 (by omega) (by omega) ⟨rI (the_eq (fun _ _ => farU_u) ⟨h0, h1, h2, fun q => by first | exact h24 q.2 | omega⟩).symm, rfl⟩
    · first | refine y_ald_n E dX3_farPlace_16 (by rfl) ?_ | refine y_aload_n E dX3_farPlace_16 (by rfl) ?_
      refine y_iload_n E dX3_farPlace_17 (by rfl) ?_
      refine y_iload_n E dX3_farPlace_18 (by rfl) ?_
      refine y_iload_n E dX3_farPlace_19 (by rfl) ?_
      refine y_iadd E dX3_farPlace_20 ?_
      refine y_callV E dX3_farPlace_21 lk_X3_93 (m_doesReach hA ?_ ?_ ?_) (by rfl) (m_o hA _ _) rfl (by decide) (by omega) (by omega) rfl (Nat.le_of_ble_eq_true rfl) ?_ (fun _ _ _ h => h.elim)
      · exact hS
      · omega
      · omega
      rintro _ _ ⟨rfl, rfl⟩
      refine y_ifd_eq (tgt := 34) E dX3_farPlace_24 (by decide) (fun h24 => ?_) (fun h24 => ?_)
      · refine y_iload_n E dX3_farPlace_34 (by rfl) ?_
        refine y_ireturn E F rfl rfl dX3_farPlace_35 (by omega) (by omega) ⟨rI (the_eq (fun _ _ => farU_u) ⟨h0, h1, h2, fun q => by first | exact h24 q.2 | omega⟩).symm, rfl⟩
      · refine y_iload_n E dX3_farPlace_27 (by rfl) ?_
        refine y_iload_n E dX3_farPlace_28 (by rfl) ?_
        refine y_iadd E dX3_farPlace_29 ?_
        refine y_istore_n (j := 3) E dX3_farPlace_30 rfl (Nat.le_of_ble_eq_true rfl) ?_
        refine y_goto (tgt := 7) E dX3_farPlace_31 (by decide) ?_
        refine ih (by omega) (by omega) (by omega) (fun q q1 q2 => ?_)
        by_cases e : q = p + 1
        · subst e
          exact h24
        · exact h2 q q1 (by omega)
  first | refine y_ald_n E dX3_farPlace_0 (by rfl) ?_ | refine y_aload_n E dX3_farPlace_0 (by rfl) ?_
  refine y_iload_n E dX3_farPlace_1 (by rfl) ?_
  refine y_iconst E dX3_farPlace_2 ?_
  refine y_callV E dX3_farPlace_3 lk_X3_81 (m_ofTower hA ?_ ?_) (by rfl) (m_o hA _ _) rfl (by decide) (by omega) (by omega) rfl (Nat.le_of_ble_eq_true rfl) ?_ (fun _ _ _ h => h.elim)
  · omega
  · omega
  rintro _ _ ⟨rfl, rfl⟩
  refine y_istore_n (j := 3) E dX3_farPlace_6 rfl (Nat.le_of_ble_eq_true rfl) ?_
  exact loop _ (by omega) (by omega) (fun q q1 q2 => by omega)
theorem m_farPlace_d (hA : mA A) (hS : SH (T 5)) {t : Int} (ht : 0 ≤ t ∧ t < 8) : Ct_X3_farPlace Γ 5 0 0 [.ref (A 0), .int (iI (t)), .int (iI (-1))] (mH A T G) (fun v G' => v = some (.int (iI (farDS (T 5) t))) ∧ G' = mH A T G) noX := by
  refine y_start (lv0 := [some (.ref (A 0)), some (.int (iI (t))), some (.int (iI (-1))), none]) (nm := "farPlace") (own := RX3) (by decide +kernel) rfl rfl (by exact Nat.le_of_ble_eq_true rfl) (by rfl) ?_
  intro Z Q E F
  have hS1 := hS.t ht.1 ht.2
  have loop : ∀ p : Int, p ≤ tw (T 5) t 0 → 0 ≤ p → (∀ q, p ≤ q → q < tw (T 5) t 0 → rchP (T 5) t q) → Y Γ Z 0 0 Q (mH A T G) 7 [some (.ref (A 0)), some (.int (iI t)), some (.int (iI (-1))), some (.int (iI p))] [] := by
    refine loopUp 0 ?_
    intro p ih h0 h1 h2
    refine y_iload_n E dX3_farPlace_7 (by rfl) ?_
    refine y_iload_n E dX3_farPlace_8 (by rfl) ?_
    refine y_iadd E dX3_farPlace_9 ?_
    refine y_callS E dX3_farPlace_10 lk_X3_126 (m_isPlace ?_) (by rfl) (by decide) (by omega) (by omega) rfl (Nat.le_of_ble_eq_true rfl) ?_ (fun _ _ _ h => h.elim)
    · omega
    rintro _ _ ⟨rfl, rfl⟩
    refine y_ifd_eq (tgt := 34) E dX3_farPlace_13 (by decide) (fun h13 => ?_) (fun h13 => ?_)
    · refine y_iload_n E dX3_farPlace_34 (by rfl) ?_
      refine y_ireturn E F rfl rfl dX3_farPlace_35 (by omega) (by omega) ⟨rI (the_eq (fun _ _ => farD_u) ⟨h1, h0, h2, fun q => by first | exact h24 q.2 | omega⟩).symm, rfl⟩
    · first | refine y_ald_n E dX3_farPlace_16 (by rfl) ?_ | refine y_aload_n E dX3_farPlace_16 (by rfl) ?_
      refine y_iload_n E dX3_farPlace_17 (by rfl) ?_
      refine y_iload_n E dX3_farPlace_18 (by rfl) ?_
      refine y_iload_n E dX3_farPlace_19 (by rfl) ?_
      refine y_iadd E dX3_farPlace_20 ?_
      refine y_callV E dX3_farPlace_21 lk_X3_93 (m_doesReach hA ?_ ?_ ?_) (by rfl) (m_o hA _ _) rfl (by decide) (by omega) (by omega) rfl (Nat.le_of_ble_eq_true rfl) ?_ (fun _ _ _ h => h.elim)
      · exact hS
      · omega
      · omega
      rintro _ _ ⟨rfl, rfl⟩
      refine y_ifd_eq (tgt := 34) E dX3_farPlace_24 (by decide) (fun h24 => ?_) (fun h24 => ?_)
      · refine y_iload_n E dX3_farPlace_34 (by rfl) ?_
        refine y_ireturn E F rfl rfl dX3_farPlace_35 (by omega) (by omega) ⟨rI (the_eq (fun _ _ => farD_u) ⟨h1, h0, h2, fun q => by first | exact h24 q.2 | omega⟩).symm, rfl⟩
      · refine y_iload_n E dX3_farPlace_27 (by rfl) ?_
        refine y_iload_n E dX3_farPlace_28 (by rfl) ?_
        refine y_iadd E dX3_farPlace_29 ?_
        refine y_istore_n (j := 3) E dX3_farPlace_30 rfl (Nat.le_of_ble_eq_true rfl) ?_
        refine y_goto (tgt := 7) E dX3_farPlace_31 (by decide) ?_
        refine ih (by omega) (by omega) (by omega) (fun q q1 q2 => ?_)
        by_cases e : q = p + -1
        · subst e
          exact h24
        · exact h2 q (by omega) q2
  first | refine y_ald_n E dX3_farPlace_0 (by rfl) ?_ | refine y_aload_n E dX3_farPlace_0 (by rfl) ?_
  refine y_iload_n E dX3_farPlace_1 (by rfl) ?_
  refine y_iconst E dX3_farPlace_2 ?_
  refine y_callV E dX3_farPlace_3 lk_X3_81 (m_ofTower hA ?_ ?_) (by rfl) (m_o hA _ _) rfl (by decide) (by omega) (by omega) rfl (Nat.le_of_ble_eq_true rfl) ?_ (fun _ _ _ h => h.elim)
  · omega
  · omega
  rintro _ _ ⟨rfl, rfl⟩
  refine y_istore_n (j := 3) E dX3_farPlace_6 rfl (Nat.le_of_ble_eq_true rfl) ?_
  exact loop _ (by omega) (by omega) (fun q q1 q2 => by omega)
theorem m_isInStretch (hA : mA A) (hS : SH (T 5)) {p : Int} (hp : inR p) : Ct_X3_isInStretch Γ 6 0 0 [.ref (A 0), .int (iI (p))] (mH A T G) (fun v G' => v = some (.int (iI (b2i (dB (strP (T 5) p))))) ∧ G' = mH A T G) noX := by
  refine y_start (lv0 := [some (.ref (A 0)), some (.int (iI (p))), none]) (nm := "isInStretch") (own := RX3) (by decide +kernel) rfl rfl (by exact Nat.le_of_ble_eq_true rfl) (by rfl) ?_
  intro Z Q E F
  have hS1 := hS.nt
  have loop : ∀ i : Int, 0 ≤ i → i ≤ T 5 10 → (∀ j, 0 ≤ j → j < i → ¬ (fun t => tw (T 5) t 4 = 1 ∧ farDS (T 5) t ≤ p ∧ p ≤ farUS (T 5) t) j) → Y Γ Z 0 0 Q (mH A T G) 2 [some (.ref (A 0)), some (.int (iI p)), some (.int (iI i))] [] := by
    refine loopDown (T 5 10) ?_
    intro i ih h0 h1 hj
    have hg := fun (h : i < T 5 10) => hS.t h0 (show i < 8 by omega)
    have hu := fun (h : i < T 5 10) => farUS_ok (t := i) (hg h).1
    have hd := fun (h : i < T 5 10) => farDS_ok (t := i) (hg h).1
    refine y_iload_n E dX3_isInStretch_2 (by rfl) ?_
    first | refine y_ald_n E dX3_isInStretch_3 (by rfl) ?_ | refine y_aload_n E dX3_isInStretch_3 (by rfl) ?_
    refine y_get E dX3_isInStretch_4 fl_X3_13_X3 (m_o hA _ _) (by rfl) ?_
    refine y_bipush E dX3_isInStretch_7 (by decide) ?_
    refine y_iald E dX3_isInStretch_9 (m_r5 hA _ _) (by omega) ?_
    refine y_icmp_ge (tgt := 48) E dX3_isInStretch_10 (by decide) (by omega) (by omega) (fun h10 => ?_) (fun h10 => ?_)
    · refine y_iconst E dX3_isInStretch_48 ?_
      refine y_ireturn E F rfl rfl dX3_isInStretch_49 (by omega) (by omega) ⟨rF (by rintro ⟨t, q1, q2, q3⟩; exact hj t q1 (by omega) q3), rfl⟩
    · have hu1 := (hu h10).1
      have hu2 := (hu h10).2.1
      have hd1 := (hd h10).1
      have hd2 := (hd h10).2.1
      first | refine y_ald_n E dX3_isInStretch_13 (by rfl) ?_ | refine y_aload_n E dX3_isInStretch_13 (by rfl) ?_
      refine y_iload_n E dX3_isInStretch_14 (by rfl) ?_
      refine y_callV E dX3_isInStretch_15 lk_X3_109 (m_isLit hA ?_ ?_) (by rfl) (m_o hA _ _) rfl (by decide) (by omega) (by omega) rfl (Nat.le_of_ble_eq_true rfl) ?_ (fun _ _ _ h => h.elim)
      · exact hS
      · omega
      rintro _ _ ⟨rfl, rfl⟩
      refine y_ifd_eq (tgt := 42) E dX3_isInStretch_18 (by decide) (fun h18 => ?_) (fun h18 => ?_)
      · refine y_iinc E dX3_isInStretch_42 (by rfl) ?_
        refine y_goto (tgt := 2) E dX3_isInStretch_45 (by decide) ?_
        exact ih (by omega) (by omega) (by omega) (low_s hj (fun q => by first | exact h18 q.1 | exact h37 q.2))
      · refine y_iload_n E dX3_isInStretch_21 (by rfl) ?_
        first | refine y_ald_n E dX3_isInStretch_22 (by rfl) ?_ | refine y_aload_n E dX3_isInStretch_22 (by rfl) ?_
        refine y_iload_n E dX3_isInStretch_23 (by rfl) ?_
        refine y_iconst E dX3_isInStretch_24 ?_
        refine y_callV E dX3_isInStretch_25 lk_X3_201 (m_farPlace_d hA hS ?_) (by rfl) (m_o hA _ _) rfl (by decide) (by omega) (by omega) rfl (Nat.le_of_ble_eq_true rfl) ?_ (fun _ _ _ h => h.elim)
        · omega
        rintro _ _ ⟨rfl, rfl⟩
        first | refine y_ald_n E dX3_isInStretch_28 (by rfl) ?_ | refine y_aload_n E dX3_isInStretch_28 (by rfl) ?_
        refine y_iload_n E dX3_isInStretch_29 (by rfl) ?_
        refine y_iconst E dX3_isInStretch_30 ?_
        refine y_callV E dX3_isInStretch_31 lk_X3_201 (m_farPlace_u hA hS ?_) (by rfl) (m_o hA _ _) rfl (by decide) (by omega) (by omega) rfl (Nat.le_of_ble_eq_true rfl) ?_ (fun _ _ _ h => h.elim)
        · omega
        rintro _ _ ⟨rfl, rfl⟩
        refine y_callS E dX3_isInStretch_34 lk_X3_77 (m_isBetween ?_ ?_ ?_) (by rfl) (by decide) (by omega) (by omega) rfl (Nat.le_of_ble_eq_true rfl) ?_ (fun _ _ _ h => h.elim)
        · omega
        · omega
        · omega
        rintro _ _ ⟨rfl, rfl⟩
        refine y_ifd_eq (tgt := 42) E dX3_isInStretch_37 (by decide) (fun h37 => ?_) (fun h37 => ?_)
        · refine y_iinc E dX3_isInStretch_42 (by rfl) ?_
          refine y_goto (tgt := 2) E dX3_isInStretch_45 (by decide) ?_
          exact ih (by omega) (by omega) (by omega) (low_s hj (fun q => by first | exact h18 q.1 | exact h37 q.2))
        · refine y_iconst E dX3_isInStretch_40 ?_
          refine y_ireturn E F rfl rfl dX3_isInStretch_41 (by omega) (by omega) ⟨rT ⟨i, h0, by omega, h18, h37⟩, rfl⟩
  refine y_iconst E dX3_isInStretch_0 ?_
  refine y_istore_n (j := 2) E dX3_isInStretch_1 rfl (Nat.le_of_ble_eq_true rfl) ?_
  exact loop 0 (by omega) (by omega) (fun j h1 h2 => by omega)
theorem m_unwatchedAgain (hA : mA A) (hS : SH (T 5)) : Ct_X3_unwatchedAgain Γ 7 0 0 [.ref (A 0)] (mH A T G) (fun v G' => v = some (.int (iI (sumI (fun p => b2i (dB (¬ strP (T 5) p))) 61))) ∧ G' = mH A (upN T 0 (fun _ => 0)) G) noX := by
  refine y_start (lv0 := [some (.ref (A 0)), none, none]) (nm := "unwatchedAgain") (own := RX3) (by decide +kernel) rfl rfl (by exact Nat.le_of_ble_eq_true rfl) (by rfl) ?_
  intro Z Q E F
  have loop : ∀ i n : Int, 0 ≤ i → i ≤ 61 → n = sumI (fun p => b2i (dB (¬ strP (T 5) p))) i → Y Γ Z 0 0 Q (mH A (upN T 0 (fun _ => 0)) G) 9 [some (.ref (A 0)), some (.int (iI n)), some (.int (iI i))] [] := by
    refine loopDown (61) ?_
    intro i ih n h0 h1 hn
    refine y_iload_n E dX3_unwatchedAgain_9 (by rfl) ?_
    refine y_bipush E dX3_unwatchedAgain_10 (by decide) ?_
    refine y_icmp_ge (tgt := 37) E dX3_unwatchedAgain_12 (by decide) (by omega) (by omega) (fun h12 => ?_) (fun h12 => ?_)
    · refine y_iload_n E dX3_unwatchedAgain_37 (by rfl) ?_
      refine y_ireturn E F rfl rfl dX3_unwatchedAgain_38 (by omega) (by omega) ⟨(rI (by rw [hn, show i = 61 by omega])), rfl⟩
    · refine y_iload_n E dX3_unwatchedAgain_15 (by rfl) ?_
      first | refine y_ald_n E dX3_unwatchedAgain_16 (by rfl) ?_ | refine y_aload_n E dX3_unwatchedAgain_16 (by rfl) ?_
      refine y_iload_n E dX3_unwatchedAgain_17 (by rfl) ?_
      refine y_callV E dX3_unwatchedAgain_18 lk_X3_210 (m_isInStretch hA ?_ ?_) (by rfl) (m_o hA _ _) rfl (by decide) (by omega) (by omega) rfl (Nat.le_of_ble_eq_true rfl) ?_ (fun _ _ _ h => h.elim)
      · exact hS
      · omega
      rintro _ _ ⟨rfl, rfl⟩
      try simp (decide := true) only [upN_s, upN_n, upN_upN, upN_id]
      refine y_ifd_eq (tgt := 28) E dX3_unwatchedAgain_21 (by decide) (fun h21 => ?_) (fun h21 => ?_)
      · refine y_iconst E dX3_unwatchedAgain_28 ?_
        refine y_iadd E dX3_unwatchedAgain_29 ?_
        refine y_istore_n (j := 1) E dX3_unwatchedAgain_30 rfl (Nat.le_of_ble_eq_true rfl) ?_
        refine y_iinc E dX3_unwatchedAgain_31 (by rfl) ?_
        refine y_goto (tgt := 9) E dX3_unwatchedAgain_34 (by decide) ?_
        exact ih (by omega) _ (by omega) (by omega) (by rw [sumI_s h0, hn]; show _ = _ + b2i (dB _); first | rw [b2i_dt (show ¬ strP (T 5) i from h21)] | rw [b2i_df (show ¬ ¬ strP (T 5) i from fun q => q h21)])
      · refine y_iconst E dX3_unwatchedAgain_24 ?_
        refine y_goto (tgt := 29) E dX3_unwatchedAgain_25 (by decide) ?_
        refine y_iadd E dX3_unwatchedAgain_29 ?_
        refine y_istore_n (j := 1) E dX3_unwatchedAgain_30 rfl (Nat.le_of_ble_eq_true rfl) ?_
        refine y_iinc E dX3_unwatchedAgain_31 (by rfl) ?_
        refine y_goto (tgt := 9) E dX3_unwatchedAgain_34 (by decide) ?_
        exact ih (by omega) _ (by omega) (by omega) (by rw [sumI_s h0, hn]; show _ = _ + b2i (dB _); first | rw [b2i_dt (show ¬ strP (T 5) i from h21)] | rw [b2i_df (show ¬ ¬ strP (T 5) i from fun q => q h21)])
  first | refine y_ald_n E dX3_unwatchedAgain_0 (by rfl) ?_ | refine y_aload_n E dX3_unwatchedAgain_0 (by rfl) ?_
  refine y_iconst E dX3_unwatchedAgain_1 ?_
  refine y_put E dX3_unwatchedAgain_2 fl_X3_51_X3 fw_X3_0 rfl (by rfl) (m_o hA _ _) (Nat.le_of_ble_eq_true rfl) ?_
  refine y_heap (m_p0 hA) ?_
  refine y_iconst E dX3_unwatchedAgain_5 ?_
  refine y_istore_n (j := 1) E dX3_unwatchedAgain_6 rfl (Nat.le_of_ble_eq_true rfl) ?_
  refine y_iconst E dX3_unwatchedAgain_7 ?_
  refine y_istore_n (j := 2) E dX3_unwatchedAgain_8 rfl (Nat.le_of_ble_eq_true rfl) ?_
  exact loop 0 0 (by omega) (by omega) (sumI_0 _).symm
theorem m_mistakes (hA : mA A) (hS : SH (T 5)) (hU : UT (T 5)) : Ct_X3_mistakes Γ 6 0 0 [.ref (A 0)] (mH A T G) (fun v G' => v = some (.int (iI (sumI (fun a => sumI (fun b => b2i (dB (a < b ∧ mistP (T 5) a b))) (T 5 10)) (T 5 10)))) ∧ G' = mH A (upN T 0 (fun _ => 0)) G) noX := by
  refine y_start (lv0 := [some (.ref (A 0)), none, none, none]) (nm := "mistakes") (own := RX3) (by decide +kernel) rfl rfl (by exact Nat.le_of_ble_eq_true rfl) (by rfl) ?_
  intro Z Q E F
  have hS1 := hS.nt
  have outer : ∀ a : Int, ∀ n : Int, ∀ lb : Option Value, 0 ≤ a → a ≤ T 5 10 → n = sumI (fun a => sumI (fun b => b2i (dB (a < b ∧ mistP (T 5) a b))) (T 5 10)) a → Y Γ Z 0 0 Q (mH A (upN T 0 (fun _ => 0)) G) 9 [some (.ref (A 0)), some (.int (iI n)), some (.int (iI a)), lb] [] := by
    refine loopDown (T 5 10) ?_
    intro a ih n lb h0 h1 hn
    have inner : a < T 5 10 → ∀ b : Int, ∀ n : Int, a < b → b ≤ T 5 10 → n = sumI (fun a => sumI (fun b => b2i (dB (a < b ∧ mistP (T 5) a b))) (T 5 10)) a + sumI (fun b => b2i (dB (a < b ∧ mistP (T 5) a b))) b → Y Γ Z 0 0 Q (mH A (upN T 0 (fun _ => 0)) G) 24 [some (.ref (A 0)), some (.int (iI n)), some (.int (iI a)), some (.int (iI b))] [] := by
      intro ha
      refine loopDown (T 5 10) ?_
      intro b ih2 n h2 h3 hn
      refine y_iload_n E dX3_mistakes_24 (by rfl) ?_
      first | refine y_ald_n E dX3_mistakes_25 (by rfl) ?_ | refine y_aload_n E dX3_mistakes_25 (by rfl) ?_
      refine y_get E dX3_mistakes_26 fl_X3_13_X3 (m_o hA _ _) (by rfl) ?_
      refine y_bipush E dX3_mistakes_29 (by decide) ?_
      refine y_iald E dX3_mistakes_31 (m_r5 hA _ _) (by omega) ?_
      try simp (decide := true) only [upN_s, upN_n, upN_upN, upN_id]
      refine y_icmp_ge (tgt := 58) E dX3_mistakes_32 (by decide) (by omega) (by omega) (fun h32 => ?_) (fun h32 => ?_)
      · refine y_iinc E dX3_mistakes_58 (by rfl) ?_
        refine y_goto (tgt := 9) E dX3_mistakes_61 (by decide) ?_
        exact ih (by omega) _ _ (by omega) (by omega) (by rw [sumI_s h0, hn, show b = T 5 10 by omega])
      · refine y_iload_n E dX3_mistakes_35 (by rfl) ?_
        first | refine y_ald_n E dX3_mistakes_36 (by rfl) ?_ | refine y_aload_n E dX3_mistakes_36 (by rfl) ?_
        refine y_iload_n E dX3_mistakes_37 (by rfl) ?_
        refine y_iload_n E dX3_mistakes_38 (by rfl) ?_
        refine y_callV E dX3_mistakes_39 lk_X3_113 (m_canBeMistaken hA ?_ ?_ ?_ ?_ ?_) (by rfl) (m_o hA _ _) rfl (by decide) (by omega) (by omega) rfl (Nat.le_of_ble_eq_true rfl) ?_ (fun _ _ _ h => h.elim)
        · exact hS
        · omega
        · omega
        · exact hU a h0 ha
        · exact hU b (by omega) (by omega)
        rintro _ _ ⟨rfl, rfl⟩
        try simp (decide := true) only [upN_s, upN_n, upN_upN, upN_id]
        refine y_ifd_eq (tgt := 49) E dX3_mistakes_42 (by decide) (fun h42 => ?_) (fun h42 => ?_)
        · refine y_iconst E dX3_mistakes_49 ?_
          refine y_iadd E dX3_mistakes_50 ?_
          refine y_istore_n (j := 1) E dX3_mistakes_51 rfl (Nat.le_of_ble_eq_true rfl) ?_
          refine y_iinc E dX3_mistakes_52 (by rfl) ?_
          refine y_goto (tgt := 24) E dX3_mistakes_55 (by decide) ?_
          exact ih2 (by omega) _ (by omega) (by omega) (by rw [sumI_s (by omega), hn, Int.add_assoc]; show _ = _ + (_ + b2i (dB _)); first | rw [b2i_dt (show a < b ∧ mistP (T 5) a b from ⟨h2, h42⟩)] | rw [b2i_df (show ¬ (a < b ∧ mistP (T 5) a b) from fun q => h42 q.2)])
        · refine y_iconst E dX3_mistakes_45 ?_
          refine y_goto (tgt := 50) E dX3_mistakes_46 (by decide) ?_
          refine y_iadd E dX3_mistakes_50 ?_
          refine y_istore_n (j := 1) E dX3_mistakes_51 rfl (Nat.le_of_ble_eq_true rfl) ?_
          refine y_iinc E dX3_mistakes_52 (by rfl) ?_
          refine y_goto (tgt := 24) E dX3_mistakes_55 (by decide) ?_
          exact ih2 (by omega) _ (by omega) (by omega) (by rw [sumI_s (by omega), hn, Int.add_assoc]; show _ = _ + (_ + b2i (dB _)); first | rw [b2i_dt (show a < b ∧ mistP (T 5) a b from ⟨h2, h42⟩)] | rw [b2i_df (show ¬ (a < b ∧ mistP (T 5) a b) from fun q => h42 q.2)])
    refine y_iload_n E dX3_mistakes_9 (by rfl) ?_
    first | refine y_ald_n E dX3_mistakes_10 (by rfl) ?_ | refine y_aload_n E dX3_mistakes_10 (by rfl) ?_
    refine y_get E dX3_mistakes_11 fl_X3_13_X3 (m_o hA _ _) (by rfl) ?_
    refine y_bipush E dX3_mistakes_14 (by decide) ?_
    refine y_iald E dX3_mistakes_16 (m_r5 hA _ _) (by omega) ?_
    try simp (decide := true) only [upN_s, upN_n, upN_upN, upN_id]
    refine y_icmp_ge (tgt := 64) E dX3_mistakes_17 (by decide) (by omega) (by omega) (fun h17 => ?_) (fun h17 => ?_)
    · refine y_iload_n E dX3_mistakes_64 (by rfl) ?_
      refine y_ireturn E F rfl rfl dX3_mistakes_65 (by omega) (by omega) ⟨(rI (by rw [hn, show a = T 5 10 by omega])), rfl⟩
    · refine y_iload_n E dX3_mistakes_20 (by rfl) ?_
      refine y_iconst E dX3_mistakes_21 ?_
      refine y_iadd E dX3_mistakes_22 ?_
      refine y_istore_n (j := 3) E dX3_mistakes_23 rfl (Nat.le_of_ble_eq_true rfl) ?_
      exact inner (by omega) _ _ (by omega) (by omega) (by rw [sumI_z (fun k q1 q2 => b2i_df (by omega)) (by omega), hn]; omega)
  first | refine y_ald_n E dX3_mistakes_0 (by rfl) ?_ | refine y_aload_n E dX3_mistakes_0 (by rfl) ?_
  refine y_iconst E dX3_mistakes_1 ?_
  refine y_put E dX3_mistakes_2 fl_X3_51_X3 fw_X3_0 rfl (by rfl) (m_o hA _ _) (Nat.le_of_ble_eq_true rfl) ?_
  refine y_heap (m_p0 hA) ?_
  refine y_iconst E dX3_mistakes_5 ?_
  refine y_istore_n (j := 1) E dX3_mistakes_6 rfl (Nat.le_of_ble_eq_true rfl) ?_
  refine y_iconst E dX3_mistakes_7 ?_
  refine y_istore_n (j := 2) E dX3_mistakes_8 rfl (Nat.le_of_ble_eq_true rfl) ?_
  exact outer 0 0 _ (by omega) (by omega) (sumI_0 _).symm
end Tw4
