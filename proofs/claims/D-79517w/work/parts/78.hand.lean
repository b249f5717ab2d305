/-! ===== the twin: handing on, mean power, share ===== -/
section Hd
def minQ (P : Int → Prop) (c : Int → Int) (i r : Int) : Prop := (r = -1 ∧ ∀ j, 0 ≤ j → j < i → ¬ P j) ∨ (0 ≤ r ∧ r < i ∧ P r ∧ (∀ j, 0 ≤ j → j < i → P j → c r ≤ c j) ∧ ∀ j, 0 ≤ j → j < r → P j → c r < c j)
theorem minQ_0 (P : Int → Prop) (c : Int → Int) : minQ P c 0 (-1) := Or.inl ⟨rfl, fun j h1 h2 => by omega⟩
theorem minQ_skip {P : Int → Prop} {c : Int → Int} {i r : Int} (h : minQ P c i r) (hs : P i → 0 ≤ r ∧ c r ≤ c i) : minQ P c (i + 1) r := by
  rcases h with ⟨h1, h2⟩ | ⟨h1, h2, h3, h4, h5⟩
  · exact Or.inl ⟨h1, low_s h2 (fun q => by have := (hs q).1; omega)⟩
  · refine Or.inr ⟨h1, by omega, h3, fun j q1 q2 q3 => ?_, h5⟩
    by_cases e : j = i
    · subst e
      exact (hs q3).2
    · exact h4 j q1 (by omega) q3
theorem minQ_take {P : Int → Prop} {c : Int → Int} {i r : Int} (hi : 0 ≤ i) (h : minQ P c i r) (hp : P i) (hs : 0 ≤ r → c i < c r) : minQ P c (i + 1) i := by
  rcases h with ⟨h1, h2⟩ | ⟨h1, h2, h3, h4, h5⟩
  · refine Or.inr ⟨hi, by omega, hp, fun j q1 q2 q3 => ?_, fun j q1 q2 q3 => absurd q3 (h2 j q1 q2)⟩
    by_cases e : j = i
    · subst e
      exact Int.le_refl _
    · exact absurd q3 (h2 j q1 (by omega))
  · have hs := hs h1
    refine Or.inr ⟨hi, by omega, hp, fun j q1 q2 q3 => ?_, fun j q1 q2 q3 => ?_⟩
    · by_cases e : j = i
      · subst e
        exact Int.le_refl _
      · have := h4 j q1 (by omega) q3
        omega
    · have := h4 j q1 (by omega) q3
      omega
theorem minQ_u {P : Int → Prop} {c : Int → Int} {i r s : Int} (h : minQ P c i r) (h' : minQ P c i s) : r = s := by
  rcases h with ⟨h1, h2⟩ | ⟨h1, h2, h3, h4, h5⟩
  · rcases h' with ⟨g1, g2⟩ | ⟨g1, g2, g3, g4, g5⟩
    · omega
    · exact absurd g3 (h2 s g1 g2)
  · rcases h' with ⟨g1, g2⟩ | ⟨g1, g2, g3, g4, g5⟩
    · exact absurd h3 (g2 r h1 h2)
    · have a := h4 s g1 g2 g3
      have b := g4 r h1 h2 h3
      by_cases e : r < s
      · have := g5 r h1 e h3
        omega
      · by_cases e2 : s < r
        · have := h5 s g1 e2 g3
          omega
        · omega
theorem minQ_ex (P : Int → Prop) (c : Int → Int) : ∀ i, 0 ≤ i → ∃ r, minQ P c i r := by
  apply intUp
  · exact ⟨-1, minQ_0 P c⟩
  · rintro i hi ⟨r, h⟩
    by_cases hc : P i ∧ (0 ≤ r → c i < c r)
    · exact ⟨i, minQ_take hi h hc.1 hc.2⟩
    · refine ⟨r, minQ_skip h (fun q => ?_)⟩
      by_cases e : 0 ≤ r
      · exact ⟨e, by have : ¬ c i < c r := fun z => hc ⟨q, fun _ => z⟩; omega⟩
      · exact absurd ⟨q, fun z => absurd z e⟩ hc
/-- the next tower with a lens above a place; -1: none -/
def nwP (w : Int → Int) (p t : Int) : Prop := 0 ≤ tw w t 3 ∧ p < tw w t 0
noncomputable def nwS (w : Int → Int) (p : Int) : Int := theI (minQ (nwP w p) (fun t => tw w t 0) (w 10))
theorem nwS_ok {w : Int → Int} (h : 0 ≤ w 10) (p : Int) : minQ (nwP w p) (fun t => tw w t 0) (w 10) (nwS w p) := the_ok (minQ_ex _ _ _ h)
theorem nwS_eq {w : Int → Int} {p r : Int} (h : minQ (nwP w p) (fun t => tw w t 0) (w 10) r) : nwS w p = r := the_eq (fun _ _ => minQ_u) h
theorem nwS_in {w : Int → Int} (h : 0 ≤ w 10) {p : Int} : -1 ≤ nwS w p ∧ nwS w p < w 10 ∧ (0 ≤ nwS w p → 0 ≤ tw w (nwS w p) 3 ∧ p < tw w (nwS w p) 0) ∨ (w 10 = 0 ∧ nwS w p = -1) := by
  rcases nwS_ok h p with ⟨h1, -⟩ | ⟨h1, h2, h3, -⟩
  · by_cases e : w 10 = 0
    · exact Or.inr ⟨e, h1⟩
    · exact Or.inl ⟨by omega, by omega, fun q => by omega⟩
  · exact Or.inl ⟨by omega, h2, fun _ => h3⟩
theorem nwS_c {w x : Int → Int} (hn : 0 ≤ w 10) (h10 : x 10 = w 10) (h0 : ∀ u, 0 ≤ u → u < w 10 → tw x u 0 = tw w u 0) (h3 : ∀ u, 0 ≤ u → u < w 10 → (0 ≤ tw x u 3 ↔ 0 ≤ tw w u 3)) (p : Int) : nwS x p = nwS w p := by
  apply nwS_eq
  rw [h10]
  rcases nwS_ok hn p with ⟨h1, h2⟩ | ⟨h1, h2, h4, h5, h6⟩
  · exact Or.inl ⟨h1, fun j a b q => h2 j a b ⟨(h3 j a b).mp q.1, by rw [← h0 j a b]; exact q.2⟩⟩
  · have key : ∀ j, 0 ≤ j → j < w 10 → nwP x p j → nwP w p j := fun j a b q => ⟨(h3 j a b).mp q.1, by rw [← h0 j a b]; exact q.2⟩
    refine Or.inr ⟨h1, h2, ⟨(h3 _ h1 h2).mpr h4.1, by rw [h0 _ h1 h2]; exact h4.2⟩, fun j a b q => ?_, fun j a b q => ?_⟩
    · show tw x _ 0 ≤ tw x j 0
      rw [h0 _ h1 h2, h0 j a b]
      exact h5 j a b (key j a b q)
    · show tw x _ 0 < tw x j 0
      rw [h0 _ h1 h2, h0 j a (by omega)]
      exact h6 j a b (key j a (by omega) q)
/-- each tower takes the lens of the one ahead of it: the last lens, how many, the row -/
noncomputable def hoF (w : Int → Int) : Nat → Int → Int → Int → (Int → Int) → Int × Int × (Int → Int)
  | 0, _, c, m, x => (c, m, x)
  | f + 1, t, c, m, x => if t < 0 then (c, m, x) else hoF w f (nwS w (tw w t 0)) (tw w t 3) (m + 1) (if 0 ≤ c then upI x (25 + 8 * t + 3) c else x)
noncomputable def hoR (w : Int → Int) : Int × Int × (Int → Int) := opq 21 (fun w : Int → Int => hoF w 62 (nwS w (-1)) (-1) 0 w) w
/-- lenses tell where they are -/
def whF (k : Int) (x : Int → Int) : Int → Int := if 0 ≤ tw x k 3 then upI x (89 + 3 * tw x k 3 + 2) k else x
noncomputable def ho1 (w : Int → Int) : Int → Int := if 1 < (hoR w).2.1 then upI (hoR w).2.2 (25 + 8 * nwS w (-1) + 3) (hoR w).1 else (hoR w).2.2
noncomputable def hoW (w : Int → Int) : Int → Int := itI whF (w 10) (ho1 w)
noncomputable def o_handOn (T : Nat → Int → Int) : Int × (Nat → Int → Int) := (if 1 < (hoR (T 5)).2.1 then (hoR (T 5)).2.1 else 0, chgT T (hoW (T 5)))
/-- what holds while lenses are handed on -/
def HO (w x : Int → Int) : Prop := SH x ∧ UT x ∧ x 10 = w 10 ∧ (∀ u, 0 ≤ u → u < w 10 → tw x u 0 = tw w u 0) ∧ ∀ u, 0 ≤ u → u < w 10 → (0 ≤ tw x u 3 ↔ 0 ≤ tw w u 3)
theorem HO_up {w x : Int → Int} (h : HO w x) (hn : w 10 ≤ 8) {t c : Int} (ht : 0 ≤ t ∧ t < w 10) (h3 : 0 ≤ tw w t 3) (hc : 0 ≤ c ∧ c ≤ 11) : HO w (upI x (25 + 8 * t + 3) c) := by
  obtain ⟨a, b, c0, d, e⟩ := h
  refine ⟨a.up (fun _ _ => by unfold loB hiB; omega), UT_up b (by omega) ht.1, (upI_n _ (by omega)).trans c0, fun u u0 u1 => (show tw (upI x (25 + 8 * t + 3) c) u 0 = tw x u 0 from upI_n _ (by omega)).trans (d u u0 u1), fun u u0 u1 => ?_⟩
  by_cases q : u = t
  · subst q
    have : tw (upI x (25 + 8 * u + 3) c) u 3 = c := upI_s _ _ _
    rw [this]
    exact ⟨fun _ => h3, fun _ => hc.1⟩
  · have : tw (upI x (25 + 8 * t + 3) c) u 3 = tw x u 3 := upI_n _ (by omega)
    rw [this]
    exact e u u0 u1
theorem whF_1 {y : Int → Int} (a : SH y) (b : UT y) {i : Int} (i0 : 0 ≤ i) (i1 : i < 8) : SH (whF i y) ∧ UT (whF i y) ∧ ∀ k, k < 89 → whF i y k = y k := by
  have hn := a.nt
  have h3 := (a.t (t := i) i0 i1).2.2.2.1
  unfold whF
  split
  · exact ⟨a.up (fun _ _ => by unfold loB hiB; omega), UT_hi b (by omega) (by omega), fun k hk => upI_n _ (by omega)⟩
  · exact ⟨a, b, fun _ _ => rfl⟩
theorem whF_ok {x : Int → Int} (h : SH x) (hU : UT x) : ∀ i, 0 ≤ i → (i ≤ x 10 → SH (itI whF i x) ∧ UT (itI whF i x) ∧ ∀ k, k < 89 → itI whF i x k = x k) := by
  have hn := h.nt
  apply intUp
  · intro _
    rw [itI_0]
    exact ⟨h, hU, fun _ _ => rfl⟩
  · intro i i0 ih i1
    obtain ⟨a, b, c⟩ := ih (by omega)
    rw [itI_s i0]
    obtain ⟨d, e, f⟩ := whF_1 a b i0 (by omega)
    exact ⟨d, e, fun k hk => (f k hk).trans (c k hk)⟩
noncomputable def fitN (w : Int → Int) : Int := sumI (fun l => b2i (dB (0 ≤ lw w l 2))) (w 11)
noncomputable def q_mean (w : Int → Int) : Int × UInt64 := if fitN w = 0 then (1, FP.i2d (iI 0)) else (0, FP.ddiv (FP.i2d (iI (powA w 0))) (FP.i2d (iI (fitN w))))
noncomputable def unwS (w : Int → Int) : Int := sumI (fun p => b2i (dB (watS w p = -1))) 61
end Hd
section Tw18
variable {Γ : yG} {A : Nat → Nat} {T : Nat → Int → Int} {G : yH}
set_option maxHeartbeats 4000000
theorem m_nextWithLens (hA : mA A) (hS : SH (T 5)) {p : Int} (hp : inR p) : Ct_X3_nextWithLens Γ 3 0 0 [.ref (A 0), .int (iI (p))] (mH A T G) (fun v G' => v = some (.int (iI (nwS (T 5) p))) ∧ G' = mH A T G) noX := by
  refine y_start (lv0 := [some (.ref (A 0)), some (.int (iI (p))), none, none]) (nm := "nextWithLens") (own := RX3) (by decide +kernel) rfl rfl (by exact Nat.le_of_ble_eq_true rfl) (by rfl) ?_
  intro Z Q E F
  have hn := hS.nt
  have loop : ∀ i b : Int, 0 ≤ i → i ≤ T 5 10 → minQ (nwP (T 5) p) (fun t => tw (T 5) t 0) i b → -1 ≤ b → b < 8 → Y Γ Z 0 0 Q (mH A T G) 4 [some (.ref (A 0)), some (.int (iI p)), some (.int (iI b)), some (.int (iI i))] [] := by
    refine loopDown (T 5 10) ?_
    intro i ih b h0 h1 hq hb0 hb1
    have hg := fun h : i < 8 => hS.t h0 h
    have hgb := fun h : 0 ≤ b => hS.t h hb1
    refine y_iload_n E dX3_nextWithLens_4 (by rfl) ?_
    first | refine y_ald_n E dX3_nextWithLens_5 (by rfl) ?_ | refine y_aload_n E dX3_nextWithLens_5 (by rfl) ?_
    refine y_get E dX3_nextWithLens_6 fl_X3_13_X3 (m_o hA _ _) (by rfl) ?_
    refine y_bipush E dX3_nextWithLens_9 (by decide) ?_
    refine y_iald E dX3_nextWithLens_11 (m_r5 hA _ _) (by omega) ?_
    refine y_icmp_ge (tgt := 64) E dX3_nextWithLens_12 (by decide) (by omega) (by omega) (fun h12 => ?_) (fun h12 => ?_)
    · refine y_iload_n E dX3_nextWithLens_64 (by rfl) ?_
      refine y_ireturn E F rfl rfl dX3_nextWithLens_65 (by omega) (by omega) ⟨rI (nwS_eq (by rw [show T 5 10 = i by omega]; exact hq)).symm, rfl⟩
    · first | refine y_ald_n E dX3_nextWithLens_15 (by rfl) ?_ | refine y_aload_n E dX3_nextWithLens_15 (by rfl) ?_
      have hg := hg (by omega)
      refine y_iload_n E dX3_nextWithLens_16 (by rfl) ?_
      refine y_iconst E dX3_nextWithLens_17 ?_
      refine y_callV E dX3_nextWithLens_18 lk_X3_81 (m_ofTower hA ?_ ?_) (by rfl) (m_o hA _ _) rfl (by decide) (by omega) (by omega) rfl (Nat.le_of_ble_eq_true rfl) ?_ (fun _ _ _ h => h.elim)
      · first | omega | (simp (decide := true) only [upN_s, upN_n, upN_upN, upN_id, remT_5, remT_8] <;> omega)
      · first | omega | (simp (decide := true) only [upN_s, upN_n, upN_upN, upN_id, remT_5, remT_8] <;> omega)
      rintro _ _ ⟨rfl, rfl⟩
      refine y_if_lt (tgt := 58) E dX3_nextWithLens_21 (by decide) (by omega) (fun h21 => ?_) (fun h21 => ?_)
      · refine y_iinc E dX3_nextWithLens_58 (by rfl) ?_
        refine y_goto (tgt := 4) E dX3_nextWithLens_61 (by decide) ?_
        first
          | (exfalso; omega)
          | exact ih (by omega) _ (by omega) (by omega) (minQ_take h0 hq ⟨by omega, by omega⟩ (fun q => by (show tw (T 5) i 0 < tw (T 5) b 0); omega)) (by omega) (by omega)
          | exact ih (by omega) _ (by omega) (by omega) (minQ_skip hq (fun q => by have q1 := q.1; have q2 := q.2; (show 0 ≤ b ∧ tw (T 5) b 0 ≤ tw (T 5) i 0); omega)) hb0 hb1
      · first | refine y_ald_n E dX3_nextWithLens_24 (by rfl) ?_ | refine y_aload_n E dX3_nextWithLens_24 (by rfl) ?_
        refine y_iload_n E dX3_nextWithLens_25 (by rfl) ?_
        refine y_iconst E dX3_nextWithLens_26 ?_
        refine y_callV E dX3_nextWithLens_27 lk_X3_81 (m_ofTower hA ?_ ?_) (by rfl) (m_o hA _ _) rfl (by decide) (by omega) (by omega) rfl (Nat.le_of_ble_eq_true rfl) ?_ (fun _ _ _ h => h.elim)
        · first | omega | (simp (decide := true) only [upN_s, upN_n, upN_upN, upN_id, remT_5, remT_8] <;> omega)
        · first | omega | (simp (decide := true) only [upN_s, upN_n, upN_upN, upN_id, remT_5, remT_8] <;> omega)
        rintro _ _ ⟨rfl, rfl⟩
        refine y_iload_n E dX3_nextWithLens_30 (by rfl) ?_
        refine y_icmp_gt (tgt := 37) E dX3_nextWithLens_31 (by decide) (by omega) (by omega) (fun h31 => ?_) (fun h31 => ?_)
        · refine y_iload_n E dX3_nextWithLens_37 (by rfl) ?_
          refine y_if_lt (tgt := 56) E dX3_nextWithLens_38 (by decide) (by omega) (fun h38 => ?_) (fun h38 => ?_)
          · refine y_iload_n E dX3_nextWithLens_56 (by rfl) ?_
            refine y_istore_n (j := 2) E dX3_nextWithLens_57 rfl (Nat.le_of_ble_eq_true rfl) ?_
            refine y_iinc E dX3_nextWithLens_58 (by rfl) ?_
            refine y_goto (tgt := 4) E dX3_nextWithLens_61 (by decide) ?_
            first
              | (exfalso; omega)
              | exact ih (by omega) _ (by omega) (by omega) (minQ_take h0 hq ⟨by omega, by omega⟩ (fun q => by (show tw (T 5) i 0 < tw (T 5) b 0); omega)) (by omega) (by omega)
              | exact ih (by omega) _ (by omega) (by omega) (minQ_skip hq (fun q => by have q1 := q.1; have q2 := q.2; (show 0 ≤ b ∧ tw (T 5) b 0 ≤ tw (T 5) i 0); omega)) hb0 hb1
          · first | refine y_ald_n E dX3_nextWithLens_41 (by rfl) ?_ | refine y_aload_n E dX3_nextWithLens_41 (by rfl) ?_
            refine y_iload_n E dX3_nextWithLens_42 (by rfl) ?_
            refine y_iconst E dX3_nextWithLens_43 ?_
            refine y_callV E dX3_nextWithLens_44 lk_X3_81 (m_ofTower hA ?_ ?_) (by rfl) (m_o hA _ _) rfl (by decide) (by omega) (by omega) rfl (Nat.le_of_ble_eq_true rfl) ?_ (fun _ _ _ h => h.elim)
            · first | omega | (simp (decide := true) only [upN_s, upN_n, upN_upN, upN_id, remT_5, remT_8] <;> omega)
            · first | omega | (simp (decide := true) only [upN_s, upN_n, upN_upN, upN_id, remT_5, remT_8] <;> omega)
            rintro _ _ ⟨rfl, rfl⟩
            first | refine y_ald_n E dX3_nextWithLens_47 (by rfl) ?_ | refine y_aload_n E dX3_nextWithLens_47 (by rfl) ?_
            have hgb := hgb (by omega)
            refine y_iload_n E dX3_nextWithLens_48 (by rfl) ?_
            refine y_iconst E dX3_nextWithLens_49 ?_
            refine y_callV E dX3_nextWithLens_50 lk_X3_81 (m_ofTower hA ?_ ?_) (by rfl) (m_o hA _ _) rfl (by decide) (by omega) (by omega) rfl (Nat.le_of_ble_eq_true rfl) ?_ (fun _ _ _ h => h.elim)
            · first | omega | (simp (decide := true) only [upN_s, upN_n, upN_upN, upN_id, remT_5, remT_8] <;> omega)
            · first | omega | (simp (decide := true) only [upN_s, upN_n, upN_upN, upN_id, remT_5, remT_8] <;> omega)
            rintro _ _ ⟨rfl, rfl⟩
            refine y_icmp_ge (tgt := 58) E dX3_nextWithLens_53 (by decide) (by omega) (by omega) (fun h53 => ?_) (fun h53 => ?_)
            · refine y_iinc E dX3_nextWithLens_58 (by rfl) ?_
              refine y_goto (tgt := 4) E dX3_nextWithLens_61 (by decide) ?_
              first
                | (exfalso; omega)
                | exact ih (by omega) _ (by omega) (by omega) (minQ_take h0 hq ⟨by omega, by omega⟩ (fun q => by (show tw (T 5) i 0 < tw (T 5) b 0); omega)) (by omega) (by omega)
                | exact ih (by omega) _ (by omega) (by omega) (minQ_skip hq (fun q => by have q1 := q.1; have q2 := q.2; (show 0 ≤ b ∧ tw (T 5) b 0 ≤ tw (T 5) i 0); omega)) hb0 hb1
            · refine y_iload_n E dX3_nextWithLens_56 (by rfl) ?_
              refine y_istore_n (j := 2) E dX3_nextWithLens_57 rfl (Nat.le_of_ble_eq_true rfl) ?_
              refine y_iinc E dX3_nextWithLens_58 (by rfl) ?_
              refine y_goto (tgt := 4) E dX3_nextWithLens_61 (by decide) ?_
              first
                | (exfalso; omega)
                | exact ih (by omega) _ (by omega) (by omega) (minQ_take h0 hq ⟨by omega, by omega⟩ (fun q => by (show tw (T 5) i 0 < tw (T 5) b 0); omega)) (by omega) (by omega)
                | exact ih (by omega) _ (by omega) (by omega) (minQ_skip hq (fun q => by have q1 := q.1; have q2 := q.2; (show 0 ≤ b ∧ tw (T 5) b 0 ≤ tw (T 5) i 0); omega)) hb0 hb1
        · refine y_goto (tgt := 58) E dX3_nextWithLens_34 (by decide) ?_
          refine y_iinc E dX3_nextWithLens_58 (by rfl) ?_
          refine y_goto (tgt := 4) E dX3_nextWithLens_61 (by decide) ?_
          first
            | (exfalso; omega)
            | exact ih (by omega) _ (by omega) (by omega) (minQ_take h0 hq ⟨by omega, by omega⟩ (fun q => by (show tw (T 5) i 0 < tw (T 5) b 0); omega)) (by omega) (by omega)
            | exact ih (by omega) _ (by omega) (by omega) (minQ_skip hq (fun q => by have q1 := q.1; have q2 := q.2; (show 0 ≤ b ∧ tw (T 5) b 0 ≤ tw (T 5) i 0); omega)) hb0 hb1
  refine y_iconst E dX3_nextWithLens_0 ?_
  refine y_istore_n (j := 2) E dX3_nextWithLens_1 rfl (Nat.le_of_ble_eq_true rfl) ?_
  refine y_iconst E dX3_nextWithLens_2 ?_
  refine y_istore_n (j := 3) E dX3_nextWithLens_3 rfl (Nat.le_of_ble_eq_true rfl) ?_
  exact loop 0 _ (by omega) (by omega) (minQ_0 _ _) (by omega) (by omega)
theorem m_handOn (hA : mA A) (hS : SH (T 5)) (hU : UT (T 5)) (hc : 0 ≤ T 9 0 ∧ T 9 0 ≤ 8) (hf : 0 ≤ T 10 0 ∧ T 10 0 ≤ 7) : Ct_X3_handOn Γ 9 0 0 [.ref (A 0)] (mH A T G) (fun v G' => v = some (.int (iI ((o_handOn T).1))) ∧ G' = mH A ((o_handOn T).2) G) noX := by
  refine y_start (lv0 := [some (.ref (A 0)), none, none, none, none, none]) (nm := "handOn") (own := RX3) (by decide +kernel) rfl rfl (by exact Nat.le_of_ble_eq_true rfl) (by rfl) ?_
  intro Z Q E F
  have hn := hS.nt
  have ph2 : ∀ (m : Int) (y : Int → Int) (l1 l2 l3 : Option Value), SH y → UT y → y 10 = T 5 10 → y = ho1 (T 5) → m = (hoR (T 5)).2.1 → 0 ≤ m ∧ m ≤ 70 → ∀ i : Int, ∀ x : Int → Int, x = itI whF i y → 0 ≤ i → i ≤ T 5 10 → Y Γ Z 0 0 Q (mH A (upN (upN (upN T 0 (fun _ => 0)) 8 (cpy (T 5) (T 8) 0 128)) 5 x) G) 89 [some (.ref (A 0)), l1, l2, l3, some (.int (iI m)), some (.int (iI i))] [] := by
    intro m y l1 l2 l3 hy hyu hy10 hye hm hm2
    refine loopDown (T 5 10) ?_
    intro i ih x hxe h0 h1
    have hxa := whF_ok hy hyu i h0 (by omega)
    rw [← hxe] at hxa
    obtain ⟨hx, hu, hxk⟩ := hxa
    have hx10 : x 10 = T 5 10 := (hxk 10 (by omega)).trans hy10
    have hg := fun h : i < 8 => hx.t h0 h
    refine y_iload E dX3_handOn_89 (by rfl) ?_
    first | refine y_ald_n E dX3_handOn_91 (by rfl) ?_ | refine y_aload_n E dX3_handOn_91 (by rfl) ?_
    refine y_get E dX3_handOn_92 fl_X3_13_X3 (m_o hA _ _) (by rfl) ?_
    refine y_bipush E dX3_handOn_95 (by decide) ?_
    refine y_iald E dX3_handOn_97 (m_r5 hA _ _) (by omega) ?_
    try simp (decide := true) only [upN_s, upN_n, upN_upN, upN_id, remT_5, remT_8]
    refine y_icmp_ge (tgt := 135) E dX3_handOn_98 (by decide) (by omega) (by omega) (fun h98 => ?_) (fun h98 => ?_)
    · first | refine y_ald_n E dX3_handOn_135 (by rfl) ?_ | refine y_aload_n E dX3_handOn_135 (by rfl) ?_
      refine y_callV E dX3_handOn_136 lk_X3_141 (m_isDone hA ?_ ?_ ?_ ?_) (by rfl) (m_o hA _ _) rfl (by decide) (by omega) (by omega) rfl (Nat.le_of_ble_eq_true rfl) ?_ (fun _ _ _ h => h.elim)
      · exact hx
      · exact hu
      · first | omega | (simp (decide := true) only [upN_s, upN_n, upN_upN, upN_id, remT_5, remT_8] <;> omega)
      · first | omega | (simp (decide := true) only [upN_s, upN_n, upN_upN, upN_id, remT_5, remT_8] <;> omega)
      rintro _ _ ⟨rfl, rfl⟩
      try simp (decide := true) only [upN_s, upN_n, upN_upN, upN_id, remT_5, remT_8]
      refine y_iload E dX3_handOn_139 (by rfl) ?_
      refine y_iconst E dX3_handOn_141 ?_
      refine y_icmp_le (tgt := 150) E dX3_handOn_142 (by decide) (by omega) (by omega) (fun h142 => ?_) (fun h142 => ?_)
      · refine y_iconst E dX3_handOn_150 ?_
        refine y_ireturn E F rfl rfl dX3_handOn_151 (by omega) (by omega) ?_
        rw [show o_handOn T = (if 1 < m then m else 0, chgT T x) from by unfold o_handOn hoW; rw [← hm, ← hye, hxe, show i = T 5 10 by omega]]
        exact ⟨by first | rw [if_pos (by omega)] | rw [if_neg (by omega)], rfl⟩
      · refine y_iload E dX3_handOn_145 (by rfl) ?_
        refine y_goto (tgt := 151) E dX3_handOn_147 (by decide) ?_
        refine y_ireturn E F rfl rfl dX3_handOn_151 (by omega) (by omega) ?_
        rw [show o_handOn T = (if 1 < m then m else 0, chgT T x) from by unfold o_handOn hoW; rw [← hm, ← hye, hxe, show i = T 5 10 by omega]]
        exact ⟨by first | rw [if_pos (by omega)] | rw [if_neg (by omega)], rfl⟩
    · have hg := hg (by omega)
      first | refine y_ald_n E dX3_handOn_101 (by rfl) ?_ | refine y_aload_n E dX3_handOn_101 (by rfl) ?_
      refine y_iload E dX3_handOn_102 (by rfl) ?_
      refine y_iconst E dX3_handOn_104 ?_
      refine y_callV E dX3_handOn_105 lk_X3_81 (m_ofTower hA ?_ ?_) (by rfl) (m_o hA _ _) rfl (by decide) (by omega) (by omega) rfl (Nat.le_of_ble_eq_true rfl) ?_ (fun _ _ _ h => h.elim)
      · first | omega | (simp (decide := true) only [upN_s, upN_n, upN_upN, upN_id, remT_5, remT_8] <;> omega)
      · first | omega | (simp (decide := true) only [upN_s, upN_n, upN_upN, upN_id, remT_5, remT_8] <;> omega)
      rintro _ _ ⟨rfl, rfl⟩
      try simp (decide := true) only [upN_s, upN_n, upN_upN, upN_id, remT_5, remT_8]
      refine y_if_lt (tgt := 129) E dX3_handOn_108 (by decide) (by omega) (fun h108 => ?_) (fun h108 => ?_)
      · refine y_iinc E dX3_handOn_129 (by rfl) ?_
        refine y_goto (tgt := 89) E dX3_handOn_132 (by decide) ?_
        first
          | exact ih (by omega) _ (by rw [itI_s h0, ← hxe]; unfold whF; rw [if_pos (by omega)]) (by omega) (by omega)
          | exact ih (by omega) _ (by rw [itI_s h0, ← hxe]; unfold whF; rw [if_neg (by omega)]) (by omega) (by omega)
      · first | refine y_ald_n E dX3_handOn_111 (by rfl) ?_ | refine y_aload_n E dX3_handOn_111 (by rfl) ?_
        refine y_get E dX3_handOn_112 fl_X3_13_X3 (m_o hA _ _) (by rfl) ?_
        first | refine y_ald_n E dX3_handOn_115 (by rfl) ?_ | refine y_aload_n E dX3_handOn_115 (by rfl) ?_
        refine y_iload E dX3_handOn_116 (by rfl) ?_
        refine y_iconst E dX3_handOn_118 ?_
        refine y_callV E dX3_handOn_119 lk_X3_81 (m_ofTower hA ?_ ?_) (by rfl) (m_o hA _ _) rfl (by decide) (by omega) (by omega) rfl (Nat.le_of_ble_eq_true rfl) ?_ (fun _ _ _ h => h.elim)
        · first | omega | (simp (decide := true) only [upN_s, upN_n, upN_upN, upN_id, remT_5, remT_8] <;> omega)
        · first | omega | (simp (decide := true) only [upN_s, upN_n, upN_upN, upN_id, remT_5, remT_8] <;> omega)
        rintro _ _ ⟨rfl, rfl⟩
        try simp (decide := true) only [upN_s, upN_n, upN_upN, upN_id, remT_5, remT_8]
        refine y_iconst E dX3_handOn_122 ?_
        refine y_callS E dX3_handOn_123 lk_X3_84 (m_lensAt) (by rfl) (by decide) (by omega) (by omega) rfl (Nat.le_of_ble_eq_true rfl) ?_ (fun _ _ _ h => h.elim)
        rintro _ _ ⟨rfl, rfl⟩
        refine y_iload E dX3_handOn_126 (by rfl) ?_
        refine y_iast E dX3_handOn_128 (m_r5 hA _ _) (by omega) ?_
        refine y_heap (m_w5 hA) ?_
        try simp (decide := true) only [upN_s, upN_n, upN_upN, upN_id, remT_5, remT_8]
        refine y_iinc E dX3_handOn_129 (by rfl) ?_
        refine y_goto (tgt := 89) E dX3_handOn_132 (by decide) ?_
        first
          | exact ih (by omega) _ (by rw [itI_s h0, ← hxe]; unfold whF; rw [if_pos (by omega)]) (by omega) (by omega)
          | exact ih (by omega) _ (by rw [itI_s h0, ← hxe]; unfold whF; rw [if_neg (by omega)]) (by omega) (by omega)
  have hnw := nwS_in hn.1 (p := -1)
  have ph1 : ∀ (f : Nat) (t c m : Int) (x : Int → Int) (l5 : Option Value), HO (T 5) x → -1 ≤ t → t < T 5 10 ∨ t = -1 → (0 ≤ t → 0 ≤ tw (T 5) t 3 ∧ 61 - tw (T 5) t 0 < f ∧ ∀ u, 0 ≤ u → u < T 5 10 → tw (T 5) t 0 ≤ tw (T 5) u 0 → tw x u 3 = tw (T 5) u 3) → -1 ≤ c → c ≤ 11 → 0 ≤ m → m + f ≤ 62 → (0 < m → 0 ≤ nwS (T 5) (-1) ∧ 0 ≤ c) → (m = 0 → t = nwS (T 5) (-1) ∧ c = -1) → hoF (T 5) f t c m x = hoR (T 5) → Y Γ Z 0 0 Q (mH A (upN (upN (upN T 0 (fun _ => 0)) 8 (cpy (T 5) (T 8) 0 128)) 5 x) G) 22 [some (.ref (A 0)), some (.int (iI (nwS (T 5) (-1)))), some (.int (iI t)), some (.int (iI c)), some (.int (iI m)), l5] [] := by
    intro f
    induction f with
    | zero =>
      intro t c m x l5 hx t0 t1 ht c0 c1 m0 m1 hmc hm0 hfin
      have htn : t < 0 := by
        by_cases e : 0 ≤ t
        · have h1 := (ht e).2.1
          have h2 := hS.t e (by omega)
          omega
        · omega
      have hfin : (c, m, x) = hoR (T 5) := hfin
      have h1m : ho1 (T 5) = if 1 < m then upI x (25 + 8 * nwS (T 5) (-1) + 3) c else x := by unfold ho1; rw [← hfin]
      have hxo := fun h : 0 < m => HO_up hx hn.2 (t := nwS (T 5) (-1)) (c := c) (by have := hmc h; omega) (by have := hmc h; omega) (by have := hmc h; omega)
      refine y_iload_n E dX3_handOn_22 (by rfl) ?_
      refine y_if_lt (tgt := 69) E dX3_handOn_23 (by decide) (by omega) (fun h23 => ?_) (fun h23 => ?_)
      · refine y_iload E dX3_handOn_69 (by rfl) ?_
        refine y_iconst E dX3_handOn_71 ?_
        refine y_icmp_le (tgt := 86) E dX3_handOn_72 (by decide) (by omega) (by omega) (fun h72 => ?_) (fun h72 => ?_)
        · refine y_iconst E dX3_handOn_86 ?_
          refine y_istore E dX3_handOn_87 (Nat.le_of_ble_eq_true rfl) ?_
          first
            | (have hz := hxo (by omega); exact ph2 m _ _ _ _ hz.1 hz.2.1 hz.2.2.1 (by rw [h1m, if_pos (by omega)]) (by rw [← hfin]) (by omega) 0 _ (itI_0 _ _).symm (by omega) (by omega))
            | exact ph2 m x _ _ _ hx.1 hx.2.1 hx.2.2.1 (by rw [h1m, if_neg (by omega)]) (by rw [← hfin]) (by omega) 0 _ (itI_0 _ _).symm (by omega) (by omega)
        · first | refine y_ald_n E dX3_handOn_75 (by rfl) ?_ | refine y_aload_n E dX3_handOn_75 (by rfl) ?_
          refine y_get E dX3_handOn_76 fl_X3_13_X3 (m_o hA _ _) (by rfl) ?_
          refine y_iload_n E dX3_handOn_79 (by rfl) ?_
          refine y_iconst E dX3_handOn_80 ?_
          refine y_callS E dX3_handOn_81 lk_X3_73 (m_towerAt) (by rfl) (by decide) (by omega) (by omega) rfl (Nat.le_of_ble_eq_true rfl) ?_ (fun _ _ _ h => h.elim)
          rintro _ _ ⟨rfl, rfl⟩
          refine y_iload_n E dX3_handOn_84 (by rfl) ?_
          refine y_iast E dX3_handOn_85 (m_r5 hA _ _) (by omega) ?_
          refine y_heap (m_w5 hA) ?_
          try simp (decide := true) only [upN_s, upN_n, upN_upN, upN_id, remT_5, remT_8]
          refine y_iconst E dX3_handOn_86 ?_
          refine y_istore E dX3_handOn_87 (Nat.le_of_ble_eq_true rfl) ?_
          first
            | (have hz := hxo (by omega); exact ph2 m _ _ _ _ hz.1 hz.2.1 hz.2.2.1 (by rw [h1m, if_pos (by omega)]) (by rw [← hfin]) (by omega) 0 _ (itI_0 _ _).symm (by omega) (by omega))
            | exact ph2 m x _ _ _ hx.1 hx.2.1 hx.2.2.1 (by rw [h1m, if_neg (by omega)]) (by rw [← hfin]) (by omega) 0 _ (itI_0 _ _).symm (by omega) (by omega)
      · exfalso
        omega
    | succ f ih =>
      intro t c m x l5 hx t0 t1 ht c0 c1 m0 m1 hmc hm0 hfin
      simp only [hoF] at hfin
      have hxt := fun h : 0 ≤ t => hx.1.t h (show t < 8 by omega)
      have hwt := fun h : 0 ≤ t => hS.t h (show t < 8 by omega)
      have hnx := nwS_in hn.1 (p := tw (T 5) t 0)
      have hxn := fun p => nwS_c hn.1 hx.2.2.1 hx.2.2.2.1 hx.2.2.2.2 p
      have e3 := fun h : 0 ≤ t => (ht h).2.2 t h (by omega) (Int.le_refl _)
      have e0 := fun h : 0 ≤ t => hx.2.2.2.1 t h (by omega)
      have hxu := fun (h : 0 ≤ t) (h2 : 0 ≤ c) => HO_up hx hn.2 (t := t) (c := c) (by omega) (ht h).1 ⟨h2, c1⟩
      have hxo := fun h : 0 < m => HO_up hx hn.2 (t := nwS (T 5) (-1)) (c := c) (by have := hmc h; omega) (by have := hmc h; omega) (by have := hmc h; omega)
      have hxun := fun (h : 0 ≤ t) (h2 : 0 ≤ c) p => nwS_c hn.1 (hxu h h2).2.2.1 (hxu h h2).2.2.2.1 (hxu h h2).2.2.2.2 p
      have hue0 : 0 ≤ t → tw (upI x (25 + 8 * t + 3) c) t 0 = tw (T 5) t 0 := fun h => (show tw (upI x (25 + 8 * t + 3) c) t 0 = tw x t 0 from upI_n _ (by omega)).trans (e0 h)
      refine y_iload_n E dX3_handOn_22 (by rfl) ?_
      refine y_if_lt (tgt := 69) E dX3_handOn_23 (by decide) (by omega) (fun h23 => ?_) (fun h23 => ?_)
      · refine y_iload E dX3_handOn_69 (by rfl) ?_
        refine y_iconst E dX3_handOn_71 ?_
        refine y_icmp_le (tgt := 86) E dX3_handOn_72 (by decide) (by omega) (by omega) (fun h72 => ?_) (fun h72 => ?_)
        · refine y_iconst E dX3_handOn_86 ?_
          refine y_istore E dX3_handOn_87 (Nat.le_of_ble_eq_true rfl) ?_
          rw [if_pos (by omega)] at hfin
          have h1m : ho1 (T 5) = (if 1 < m then upI x (25 + 8 * nwS (T 5) (-1) + 3) c else x) := by unfold ho1; rw [← hfin]
          first
            | (have hz := hxo (by omega); exact ph2 m _ _ _ _ hz.1 hz.2.1 hz.2.2.1 (by rw [h1m, if_pos (by omega)]) (by rw [← hfin]) (by omega) 0 _ (itI_0 _ _).symm (by omega) (by omega))
            | exact ph2 m x _ _ _ hx.1 hx.2.1 hx.2.2.1 (by rw [h1m, if_neg (by omega)]) (by rw [← hfin]) (by omega) 0 _ (itI_0 _ _).symm (by omega) (by omega)
        · first | refine y_ald_n E dX3_handOn_75 (by rfl) ?_ | refine y_aload_n E dX3_handOn_75 (by rfl) ?_
          refine y_get E dX3_handOn_76 fl_X3_13_X3 (m_o hA _ _) (by rfl) ?_
          refine y_iload_n E dX3_handOn_79 (by rfl) ?_
          refine y_iconst E dX3_handOn_80 ?_
          refine y_callS E dX3_handOn_81 lk_X3_73 (m_towerAt) (by rfl) (by decide) (by omega) (by omega) rfl (Nat.le_of_ble_eq_true rfl) ?_ (fun _ _ _ h => h.elim)
          rintro _ _ ⟨rfl, rfl⟩
          refine y_iload_n E dX3_handOn_84 (by rfl) ?_
          refine y_iast E dX3_handOn_85 (m_r5 hA _ _) (by omega) ?_
          refine y_heap (m_w5 hA) ?_
          try simp (decide := true) only [upN_s, upN_n, upN_upN, upN_id, remT_5, remT_8]
          refine y_iconst E dX3_handOn_86 ?_
          refine y_istore E dX3_handOn_87 (Nat.le_of_ble_eq_true rfl) ?_
          rw [if_pos (by omega)] at hfin
          have h1m : ho1 (T 5) = (if 1 < m then upI x (25 + 8 * nwS (T 5) (-1) + 3) c else x) := by unfold ho1; rw [← hfin]
          first
            | (have hz := hxo (by omega); exact ph2 m _ _ _ _ hz.1 hz.2.1 hz.2.2.1 (by rw [h1m, if_pos (by omega)]) (by rw [← hfin]) (by omega) 0 _ (itI_0 _ _).symm (by omega) (by omega))
            | exact ph2 m x _ _ _ hx.1 hx.2.1 hx.2.2.1 (by rw [h1m, if_neg (by omega)]) (by rw [← hfin]) (by omega) 0 _ (itI_0 _ _).symm (by omega) (by omega)
      · rw [if_neg (by omega)] at hfin
        have hxt := hxt h23
        have hwt := hwt h23
        have e3 := e3 h23
        have e0 := e0 h23
        have hue0 := hue0 h23
        have hth := ht h23
        first | refine y_ald_n E dX3_handOn_26 (by rfl) ?_ | refine y_aload_n E dX3_handOn_26 (by rfl) ?_
        refine y_iload_n E dX3_handOn_27 (by rfl) ?_
        refine y_iconst E dX3_handOn_28 ?_
        refine y_callV E dX3_handOn_29 lk_X3_81 (m_ofTower hA ?_ ?_) (by rfl) (m_o hA _ _) rfl (by decide) (by omega) (by omega) rfl (Nat.le_of_ble_eq_true rfl) ?_ (fun _ _ _ h => h.elim)
        · first | omega | (simp (decide := true) only [upN_s, upN_n, upN_upN, upN_id, remT_5, remT_8] <;> omega)
        · first | omega | (simp (decide := true) only [upN_s, upN_n, upN_upN, upN_id, remT_5, remT_8] <;> omega)
        rintro _ _ ⟨rfl, rfl⟩
        try simp (decide := true) only [upN_s, upN_n, upN_upN, upN_id, remT_5, remT_8]
        rw [e3]
        refine y_istore E dX3_handOn_32 (Nat.le_of_ble_eq_true rfl) ?_
        refine y_iload_n E dX3_handOn_34 (by rfl) ?_
        refine y_if_lt (tgt := 49) E dX3_handOn_35 (by decide) (by omega) (fun h35 => ?_) (fun h35 => ?_)
        · refine y_iload E dX3_handOn_49 (by rfl) ?_
          refine y_istore_n (j := 3) E dX3_handOn_51 rfl (Nat.le_of_ble_eq_true rfl) ?_
          refine y_iinc E dX3_handOn_52 (by rfl) ?_
          first | refine y_ald_n E dX3_handOn_55 (by rfl) ?_ | refine y_aload_n E dX3_handOn_55 (by rfl) ?_
          first | refine y_ald_n E dX3_handOn_56 (by rfl) ?_ | refine y_aload_n E dX3_handOn_56 (by rfl) ?_
          refine y_iload_n E dX3_handOn_57 (by rfl) ?_
          refine y_iconst E dX3_handOn_58 ?_
          refine y_callV E dX3_handOn_59 lk_X3_81 (m_ofTower hA ?_ ?_) (by rfl) (m_o hA _ _) rfl (by decide) (by omega) (by omega) rfl (Nat.le_of_ble_eq_true rfl) ?_ (fun _ _ _ h => h.elim)
          · first | omega | (simp (decide := true) only [upN_s, upN_n, upN_upN, upN_id, remT_5, remT_8] <;> omega)
          · first | omega | (simp (decide := true) only [upN_s, upN_n, upN_upN, upN_id, remT_5, remT_8] <;> omega)
          rintro _ _ ⟨rfl, rfl⟩
          try simp (decide := true) only [upN_s, upN_n, upN_upN, upN_id, remT_5, remT_8]
          first | rw [hue0] | rw [e0]
          refine y_callV E dX3_handOn_62 lk_X3_192 (m_nextWithLens hA ?_ ?_) (by rfl) (m_o hA _ _) rfl (by decide) (by omega) (by omega) rfl (Nat.le_of_ble_eq_true rfl) ?_ (fun _ _ _ h => h.elim)
          · first | exact (hxu h23 (by omega)).1 | exact hx.1
          · omega
          rintro _ _ ⟨rfl, rfl⟩
          try simp (decide := true) only [upN_s, upN_n, upN_upN, upN_id, remT_5, remT_8]
          first | rw [hxun h23 (by omega)] | rw [hxn]
          refine y_istore_n (j := 2) E dX3_handOn_65 rfl (Nat.le_of_ble_eq_true rfl) ?_
          refine y_goto (tgt := 22) E dX3_handOn_66 (by decide) ?_
          first
            | (rw [if_pos (by omega)] at hfin; refine ih _ _ _ _ _ (hxu h23 (by omega)) (by omega) (by omega) (fun q => ⟨by omega, by omega, fun u u0 u1 u2 => ?_⟩) (by omega) (by omega) (by omega) (by omega) (fun _ => ⟨by omega, by omega⟩) (fun _ => by omega) hfin)
            | (rw [if_neg (by omega)] at hfin; refine ih _ _ _ _ _ hx (by omega) (by omega) (fun q => ⟨by omega, by omega, fun u u0 u1 u2 => ?_⟩) (by omega) (by omega) (by omega) (by omega) (fun _ => ⟨by omega, by omega⟩) (fun _ => by omega) hfin)
          all_goals first
            | (have hut : u ≠ t := (fun e => by rw [e] at u2; omega); exact (show tw (upI x (25 + 8 * t + 3) c) u 3 = tw x u 3 from upI_n _ (by omega)).trans (hth.2.2 u u0 u1 (by omega)))
            | exact hth.2.2 u u0 u1 (by omega)
        · first | refine y_ald_n E dX3_handOn_38 (by rfl) ?_ | refine y_aload_n E dX3_handOn_38 (by rfl) ?_
          refine y_get E dX3_handOn_39 fl_X3_13_X3 (m_o hA _ _) (by rfl) ?_
          refine y_iload_n E dX3_handOn_42 (by rfl) ?_
          refine y_iconst E dX3_handOn_43 ?_
          refine y_callS E dX3_handOn_44 lk_X3_73 (m_towerAt) (by rfl) (by decide) (by omega) (by omega) rfl (Nat.le_of_ble_eq_true rfl) ?_ (fun _ _ _ h => h.elim)
          rintro _ _ ⟨rfl, rfl⟩
          refine y_iload_n E dX3_handOn_47 (by rfl) ?_
          refine y_iast E dX3_handOn_48 (m_r5 hA _ _) (by omega) ?_
          refine y_heap (m_w5 hA) ?_
          try simp (decide := true) only [upN_s, upN_n, upN_upN, upN_id, remT_5, remT_8]
          refine y_iload E dX3_handOn_49 (by rfl) ?_
          refine y_istore_n (j := 3) E dX3_handOn_51 rfl (Nat.le_of_ble_eq_true rfl) ?_
          refine y_iinc E dX3_handOn_52 (by rfl) ?_
          first | refine y_ald_n E dX3_handOn_55 (by rfl) ?_ | refine y_aload_n E dX3_handOn_55 (by rfl) ?_
          first | refine y_ald_n E dX3_handOn_56 (by rfl) ?_ | refine y_aload_n E dX3_handOn_56 (by rfl) ?_
          refine y_iload_n E dX3_handOn_57 (by rfl) ?_
          refine y_iconst E dX3_handOn_58 ?_
          refine y_callV E dX3_handOn_59 lk_X3_81 (m_ofTower hA ?_ ?_) (by rfl) (m_o hA _ _) rfl (by decide) (by omega) (by omega) rfl (Nat.le_of_ble_eq_true rfl) ?_ (fun _ _ _ h => h.elim)
          · first | omega | (simp (decide := true) only [upN_s, upN_n, upN_upN, upN_id, remT_5, remT_8] <;> omega)
          · first | omega | (simp (decide := true) only [upN_s, upN_n, upN_upN, upN_id, remT_5, remT_8] <;> omega)
          rintro _ _ ⟨rfl, rfl⟩
          try simp (decide := true) only [upN_s, upN_n, upN_upN, upN_id, remT_5, remT_8]
          first | rw [hue0] | rw [e0]
          refine y_callV E dX3_handOn_62 lk_X3_192 (m_nextWithLens hA ?_ ?_) (by rfl) (m_o hA _ _) rfl (by decide) (by omega) (by omega) rfl (Nat.le_of_ble_eq_true rfl) ?_ (fun _ _ _ h => h.elim)
          · first | exact (hxu h23 (by omega)).1 | exact hx.1
          · omega
          rintro _ _ ⟨rfl, rfl⟩
          try simp (decide := true) only [upN_s, upN_n, upN_upN, upN_id, remT_5, remT_8]
          first | rw [hxun h23 (by omega)] | rw [hxn]
          refine y_istore_n (j := 2) E dX3_handOn_65 rfl (Nat.le_of_ble_eq_true rfl) ?_
          refine y_goto (tgt := 22) E dX3_handOn_66 (by decide) ?_
          first
            | (rw [if_pos (by omega)] at hfin; refine ih _ _ _ _ _ (hxu h23 (by omega)) (by omega) (by omega) (fun q => ⟨by omega, by omega, fun u u0 u1 u2 => ?_⟩) (by omega) (by omega) (by omega) (by omega) (fun _ => ⟨by omega, by omega⟩) (fun _ => by omega) hfin)
            | (rw [if_neg (by omega)] at hfin; refine ih _ _ _ _ _ hx (by omega) (by omega) (fun q => ⟨by omega, by omega, fun u u0 u1 u2 => ?_⟩) (by omega) (by omega) (by omega) (by omega) (fun _ => ⟨by omega, by omega⟩) (fun _ => by omega) hfin)
          all_goals first
            | (have hut : u ≠ t := (fun e => by rw [e] at u2; omega); exact (show tw (upI x (25 + 8 * t + 3) c) u 3 = tw x u 3 from upI_n _ (by omega)).trans (hth.2.2 u u0 u1 (by omega)))
            | exact hth.2.2 u u0 u1 (by omega)
  first | refine y_ald_n E dX3_handOn_0 (by rfl) ?_ | refine y_aload_n E dX3_handOn_0 (by rfl) ?_
  refine y_iconst E dX3_handOn_1 ?_
  refine y_put E dX3_handOn_2 fl_X3_51_X3 fw_X3_0 rfl (by rfl) (m_o hA _ _) (Nat.le_of_ble_eq_true rfl) ?_
  refine y_heap (m_p0 hA) ?_
  first | refine y_ald_n E dX3_handOn_5 (by rfl) ?_ | refine y_aload_n E dX3_handOn_5 (by rfl) ?_
  refine y_callV E dX3_handOn_6 lk_X3_138 (m_notes hA) (by rfl) (m_o hA _ _) rfl (by decide) (by omega) (by omega) rfl (Nat.le_of_ble_eq_true rfl) ?_ (fun _ _ _ h => h.elim)
  rintro _ _ ⟨rfl, rfl⟩
  try simp (decide := true) only [upN_s, upN_n, upN_upN, upN_id, remT_5, remT_8]
  first | refine y_ald_n E dX3_handOn_9 (by rfl) ?_ | refine y_aload_n E dX3_handOn_9 (by rfl) ?_
  refine y_iconst E dX3_handOn_10 ?_
  refine y_callV E dX3_handOn_11 lk_X3_192 (m_nextWithLens hA ?_ ?_) (by rfl) (m_o hA _ _) rfl (by decide) (by omega) (by omega) rfl (Nat.le_of_ble_eq_true rfl) ?_ (fun _ _ _ h => h.elim)
  · exact hS
  · first | omega | (simp (decide := true) only [upN_s, upN_n, upN_upN, upN_id, remT_5, remT_8] <;> omega)
  rintro _ _ ⟨rfl, rfl⟩
  try simp (decide := true) only [upN_s, upN_n, upN_upN, upN_id, remT_5, remT_8]
  refine y_istore_n (j := 1) E dX3_handOn_14 rfl (Nat.le_of_ble_eq_true rfl) ?_
  refine y_iload_n E dX3_handOn_15 (by rfl) ?_
  refine y_istore_n (j := 2) E dX3_handOn_16 rfl (Nat.le_of_ble_eq_true rfl) ?_
  refine y_iconst E dX3_handOn_17 ?_
  refine y_istore_n (j := 3) E dX3_handOn_18 rfl (Nat.le_of_ble_eq_true rfl) ?_
  refine y_iconst E dX3_handOn_19 ?_
  refine y_istore E dX3_handOn_20 (Nat.le_of_ble_eq_true rfl) ?_
  refine y_heap (show _ = mH A (upN (upN (upN T 0 (fun _ => 0)) 8 (cpy (T 5) (T 8) 0 128)) 5 (T 5)) G from ?_) (ph1 62 (nwS (T 5) (-1)) (-1) 0 (T 5) _ ⟨hS, hU, rfl, fun _ _ _ => rfl, fun _ _ _ => Iff.rfl⟩ (by omega) (by omega) (fun q => ⟨by omega, ?_, fun u u0 u1 u2 => rfl⟩) (by omega) (by omega) (by omega) (by omega) (fun q => by omega) (fun _ => ⟨rfl, rfl⟩) (by unfold hoR; rw [opq_eq]))
  · exact congrArg (fun T => mH A T G) (upN_id (upN (upN T 0 (fun _ => 0)) 8 (cpy (T 5) (T 8) 0 128)) 5).symm
  · have := hS.t q (by omega)
    omega
theorem m_meanPower (hA : mA A) (hS : SH (T 5)) : Ct_X3_meanPower Γ 3 0 0 [.ref (A 0)] (mH A T G) (fun v G' => v = some (.double ((q_mean (T 5)).2)) ∧ G' = mH A (upN T 0 (fun _ => (q_mean (T 5)).1)) G) noX := by
  refine y_start (lv0 := [some (.ref (A 0)), none, none]) (nm := "meanPower") (own := RX3) (by decide +kernel) rfl rfl (by exact Nat.le_of_ble_eq_true rfl) (by rfl) ?_
  intro Z Q E F
  have hn := hS.nl
  have hfb := sumI_b (f := fun l => b2i (dB (0 ≤ lw (T 5) l 2))) (n := T 5 11) (m := 1) (fun k _ _ => b2i_le _) hn.1
  have hpb := sumI_b (f := fun l => if 0 ≤ lw (T 5) l 2 then lw (T 5) l 0 else 0) (n := T 5 11) (m := 60) (fun k k0 k1 => by have := (hS.l k0 (show k < 12 by omega)).1; split <;> omega) hn.1
  have loop : ∀ i n : Int, 0 ≤ i → i ≤ T 5 11 → n = sumI (fun l => b2i (dB (0 ≤ lw (T 5) l 2))) i → Y Γ Z 0 0 Q (mH A (upN T 0 (fun _ => 0)) G) 9 [some (.ref (A 0)), some (.int (iI n)), some (.int (iI i))] [] := by
    refine loopDown (T 5 11) ?_
    intro i ih n h0 h1 hn2
    have hg : i < T 5 11 → -2 ≤ T 5 (89 + 3 * i + 2) ∧ T 5 (89 + 3 * i + 2) ≤ 7 := fun h => (hS.l h0 (by omega)).2.2
    have hnb := sumI_b (f := fun l => b2i (dB (0 ≤ lw (T 5) l 2))) (n := i) (m := 1) (fun k _ _ => b2i_le _) h0
    have hne : i = T 5 11 → n = fitN (T 5) := fun e => by rw [hn2, e]; rfl
    refine y_iload_n E dX3_meanPower_9 (by rfl) ?_
    first | refine y_ald_n E dX3_meanPower_10 (by rfl) ?_ | refine y_aload_n E dX3_meanPower_10 (by rfl) ?_
    refine y_get E dX3_meanPower_11 fl_X3_13_X3 (m_o hA _ _) (by rfl) ?_
    refine y_bipush E dX3_meanPower_14 (by decide) ?_
    refine y_iald E dX3_meanPower_16 (m_r5 hA _ _) (by omega) ?_
    try simp (decide := true) only [upN_s, upN_n, upN_upN, upN_id, remT_5, remT_8]
    refine y_icmp_ge (tgt := 47) E dX3_meanPower_17 (by decide) (by omega) (by omega) (fun h17 => ?_) (fun h17 => ?_)
    · have hne := hne (by omega)
      refine y_iload_n E dX3_meanPower_47 (by rfl) ?_
      refine y_if_ne (tgt := 58) E dX3_meanPower_48 (by decide) (by omega) (fun h48 => ?_) (fun h48 => ?_)
      · first | refine y_ald_n E dX3_meanPower_58 (by rfl) ?_ | refine y_aload_n E dX3_meanPower_58 (by rfl) ?_
        refine y_iconst E dX3_meanPower_59 ?_
        refine y_callV E dX3_meanPower_60 lk_X3_301 (m_allPower hA ?_ ?_) (by rfl) (m_o hA _ _) rfl (by decide) (by omega) (by omega) rfl (Nat.le_of_ble_eq_true rfl) ?_ (fun _ _ _ h => h.elim)
        · exact hS
        · first | omega | (simp (decide := true) only [upN_s, upN_n, upN_upN, upN_id, remT_5, remT_8] <;> omega)
        rintro _ _ ⟨rfl, rfl⟩
        try simp (decide := true) only [upN_s, upN_n, upN_upN, upN_id, remT_5, remT_8]
        refine y_i2d E dX3_meanPower_63 ?_
        refine y_iload_n E dX3_meanPower_64 (by rfl) ?_
        refine y_i2d E dX3_meanPower_65 ?_
        refine y_ddiv E dX3_meanPower_66 (by have q := fp_ddiv (powA (T 5) 0).toNat (by unfold powA; omega) n.toNat (by omega) (by omega); rw [show (((powA (T 5) 0).toNat : Nat) : Int) = powA (T 5) 0 by unfold powA; omega, show ((n.toNat : Nat) : Int) = n by omega] at q; exact q) ?_
        refine y_dreturn E F rfl dX3_meanPower_67 (by omega) (by omega) (by rw [show q_mean (T 5) = (0, FP.ddiv (FP.i2d (iI (powA (T 5) 0))) (FP.i2d (iI (fitN (T 5))))) from by unfold q_mean; rw [if_neg (by omega)], ← hne]; exact ⟨rfl, rfl⟩)
      · first | refine y_ald_n E dX3_meanPower_51 (by rfl) ?_ | refine y_aload_n E dX3_meanPower_51 (by rfl) ?_
        refine y_iconst E dX3_meanPower_52 ?_
        refine y_callV E dX3_meanPower_53 lk_X3_63 (m_fails hA) (by rfl) (m_o hA _ _) rfl (by decide) (by omega) (by omega) rfl (Nat.le_of_ble_eq_true rfl) ?_ (fun _ _ _ h => h.elim)
        rintro _ _ ⟨rfl, rfl⟩
        try simp (decide := true) only [upN_s, upN_n, upN_upN, upN_id, remT_5, remT_8]
        refine y_i2d E dX3_meanPower_56 ?_
        refine y_dreturn E F rfl dX3_meanPower_57 (by omega) (by omega) (by rw [show q_mean (T 5) = (1, FP.i2d (iI 0)) from by unfold q_mean; rw [if_pos (by omega)]]; exact ⟨rfl, rfl⟩)
    · refine y_iload_n E dX3_meanPower_20 (by rfl) ?_
      first | refine y_ald_n E dX3_meanPower_21 (by rfl) ?_ | refine y_aload_n E dX3_meanPower_21 (by rfl) ?_
      refine y_get E dX3_meanPower_22 fl_X3_13_X3 (m_o hA _ _) (by rfl) ?_
      refine y_iload_n E dX3_meanPower_25 (by rfl) ?_
      refine y_iconst E dX3_meanPower_26 ?_
      refine y_callS E dX3_meanPower_27 lk_X3_84 (m_lensAt) (by rfl) (by decide) (by omega) (by omega) rfl (Nat.le_of_ble_eq_true rfl) ?_ (fun _ _ _ h => h.elim)
      rintro _ _ ⟨rfl, rfl⟩
      refine y_iald E dX3_meanPower_30 (m_r5 hA _ _) (by omega) ?_
      try simp (decide := true) only [upN_s, upN_n, upN_upN, upN_id, remT_5, remT_8]
      refine y_if_lt (tgt := 38) E dX3_meanPower_31 (by decide) (by omega) (fun h31 => ?_) (fun h31 => ?_)
      · refine y_iconst E dX3_meanPower_38 ?_
        refine y_iadd E dX3_meanPower_39 ?_
        refine y_istore_n (j := 1) E dX3_meanPower_40 rfl (Nat.le_of_ble_eq_true rfl) ?_
        refine y_iinc E dX3_meanPower_41 (by rfl) ?_
        refine y_goto (tgt := 9) E dX3_meanPower_44 (by decide) ?_
        exact ih (by omega) _ (by omega) (by omega) (by rw [sumI_s h0, hn2]; show _ = _ + b2i (dB _); first | rw [b2i_dt (show 0 ≤ lw (T 5) i 2 from by assumption)] | rw [b2i_df (show ¬ 0 ≤ lw (T 5) i 2 from by (simp only [lw]; omega))])
      · refine y_iconst E dX3_meanPower_34 ?_
        refine y_goto (tgt := 39) E dX3_meanPower_35 (by decide) ?_
        refine y_iadd E dX3_meanPower_39 ?_
        refine y_istore_n (j := 1) E dX3_meanPower_40 rfl (Nat.le_of_ble_eq_true rfl) ?_
        refine y_iinc E dX3_meanPower_41 (by rfl) ?_
        refine y_goto (tgt := 9) E dX3_meanPower_44 (by decide) ?_
        exact ih (by omega) _ (by omega) (by omega) (by rw [sumI_s h0, hn2]; show _ = _ + b2i (dB _); first | rw [b2i_dt (show 0 ≤ lw (T 5) i 2 from by assumption)] | rw [b2i_df (show ¬ 0 ≤ lw (T 5) i 2 from by (simp only [lw]; omega))])
  first | refine y_ald_n E dX3_meanPower_0 (by rfl) ?_ | refine y_aload_n E dX3_meanPower_0 (by rfl) ?_
  refine y_iconst E dX3_meanPower_1 ?_
  refine y_put E dX3_meanPower_2 fl_X3_51_X3 fw_X3_0 rfl (by rfl) (m_o hA _ _) (Nat.le_of_ble_eq_true rfl) ?_
  refine y_heap (m_p0 hA) ?_
  refine y_iconst E dX3_meanPower_5 ?_
  refine y_istore_n (j := 1) E dX3_meanPower_6 rfl (Nat.le_of_ble_eq_true rfl) ?_
  refine y_iconst E dX3_meanPower_7 ?_
  refine y_istore_n (j := 2) E dX3_meanPower_8 rfl (Nat.le_of_ble_eq_true rfl) ?_
  exact loop 0 0 (by omega) (by omega) (sumI_0 _).symm
theorem m_watchedShare (hA : mA A) (hS : SH (T 5)) : Ct_X3_watchedShare Γ 7 0 0 [.ref (A 0)] (mH A T G) (fun v G' => v = some (.float (FP.fdiv (FP.i2f (iI (61 - unwS (T 5)))) 1114898432)) ∧ G' = mH A (upN T 0 (fun _ => 0)) G) noX := by
  refine y_start (lv0 := [some (.ref (A 0))]) (nm := "watchedShare") (own := RX3) (by decide +kernel) rfl rfl (by exact Nat.le_of_ble_eq_true rfl) (by rfl) ?_
  intro Z Q E F
  have hb := sumI_b (f := fun p => b2i (dB (watS (T 5) p = -1))) (n := 61) (m := 1) (fun k _ _ => b2i_le _) (by omega)
  first | refine y_ald_n E dX3_watchedShare_0 (by rfl) ?_ | refine y_aload_n E dX3_watchedShare_0 (by rfl) ?_
  refine y_iconst E dX3_watchedShare_1 ?_
  refine y_put E dX3_watchedShare_2 fl_X3_51_X3 fw_X3_0 rfl (by rfl) (m_o hA _ _) (Nat.le_of_ble_eq_true rfl) ?_
  refine y_heap (m_p0 hA) ?_
  refine y_bipush E dX3_watchedShare_5 (by decide) ?_
  first | refine y_ald_n E dX3_watchedShare_7 (by rfl) ?_ | refine y_aload_n E dX3_watchedShare_7 (by rfl) ?_
  refine y_iconst E dX3_watchedShare_8 ?_
  refine y_callV E dX3_watchedShare_9 lk_X3_207 (m_watchedBy hA ?_ ?_) (by rfl) (m_o hA _ _) rfl (by decide) (by omega) (by omega) rfl (Nat.le_of_ble_eq_true rfl) ?_ (fun _ _ _ h => h.elim)
  · exact hS
  · first | omega | (simp (decide := true) only [upN_s, upN_n, upN_upN, upN_id, remT_5, remT_8] <;> omega)
  rintro _ _ ⟨rfl, rfl⟩
  try simp (decide := true) only [upN_s, upN_n, upN_upN, upN_id, remT_5, remT_8]
  rw [show sumI (fun p => b2i (dB (watS (T 5) p = -1))) 61 = unwS (T 5) from rfl]
  refine y_isub E dX3_watchedShare_12 ?_
  refine y_i2f E dX3_watchedShare_13 ?_
  refine y_ldcwf E q3038 dX3_watchedShare_14 ?_
  refine y_fdiv E dX3_watchedShare_17 (by have q := fp_fdiv (61 - unwS (T 5)).toNat (by unfold unwS; omega); rw [show (((61 - unwS (T 5)).toNat : Nat) : Int) = 61 - unwS (T 5) by unfold unwS; omega] at q; exact q) ?_
  refine y_freturn E F rfl dX3_watchedShare_18 (by omega) (by omega) ⟨rfl, rfl⟩
end Tw18
