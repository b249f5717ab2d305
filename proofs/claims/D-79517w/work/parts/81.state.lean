/-! ===== State: the picture of its cells; costs, reach, signals ===== -/
section St
abbrev SA : Type := Nat × Nat × Nat × Nat × (Nat → Nat) × (Nat → Nat)
def sTl (S : SA) : Nat := S.1
def sLl (S : SA) : Nat := S.2.1
def sSl (S : SA) : Nat := S.2.2.1
def sFg (S : SA) : Nat := S.2.2.2.1
def sTa (S : SA) : Nat → Nat := S.2.2.2.2.1
def sLa (S : SA) : Nat → Nat := S.2.2.2.2.2
abbrev stE (S : SA) (w : Int → Int) : yE := .inr (3, [.ref (sTl S), .ref (sLl S), .ref (sSl S), .ref (sFg S), .int (iI (w 0)), .int (iI (w 1)), .int (iI (w 2))])
/-- the lens of a tower -/
def lnO (w : Int → Int) (S : SA) (t : Int) : Option Nat := if tw w t 3 < 0 then none else some (sLa S (tw w t 3).toNat)
def twX (Γ : yG) (S : SA) (w : Int → Int) (t : Nat) : yE := twE t (tw w t 0) (yad Γ (tw w t 1).toNat) (tw w t 2) (tw w t 6) (tw w t 7) (lnO w S t) (tw w t 4) (tw w t 5)
def lnX (w : Int → Int) (l : Nat) : yE := lnE l (lw w l 1) (lw w l 0) (b2i (decide (lw w l 2 = -2)))
def twL (S : SA) (w : Int → Int) : List Nat := (List.range (w 10).toNat).map (sTa S)
def lnL (S : SA) (w : Int → Int) : List Nat := (List.range (w 11).toNat).map (sLa S)
def soL (S : SA) (w : Int → Int) : List Nat := (List.range (w 12).toNat).map (fun k : Nat => sLa S (w (13 + (k : Int))).toNat)
/-- the fog -/
def fgF (w : Int → Int) : Int → Int := fun k => if 0 ≤ k ∧ k < 7 then w (3 + k) else 0
theorem fgF_c {w v : Int → Int} (h : ∀ k, 3 ≤ k → k < 10 → v k = w k) : fgF v = fgF w := by
  funext k
  unfold fgF
  split
  · exact h _ (by omega) (by omega)
  · rfl
theorem fgF_at {w : Int → Int} {k : Int} (h : 0 ≤ k ∧ k < 7) : fgF w k = w (3 + k) := by unfold fgF; rw [if_pos h]
def isST (Γ : yG) (G : yH) (st a : Nat) (S : SA) (w : Int → Int) : Prop :=
  G a = some (some (st, 0), stE S w) ∧ isAL Γ G (st, 1) (sTl S) (twL S w) ∧ isAL Γ G (st, 2) (sLl S) (lnL S w) ∧ isLL G (st, 3) (sSl S) ((soL S w).map some) ∧ G (sFg S) = some (some (st, 4), aI 0 7 (fgF w)) ∧ (∀ t : Nat, (t : Int) < w 10 → G (sTa S t) = some (some (st, 5), twX Γ S w t)) ∧ ∀ l : Nat, (l : Int) < w 11 → G (sLa S l) = some (some (st, 6), lnX w l)
theorem isST.kk {Γ : yG} {P : Nat × Nat → Prop} {G G' : yH} {st a : Nat} {S : SA} {w : Int → Int} (hB : gB Γ G) (h : isST Γ G st a S w) (hk : gK P G G') (hP : ∀ j, ¬ P (st, j)) : isST Γ G' st a S w := by
  obtain ⟨h1, h2, h3, h4, h5, h6, h7⟩ := h
  exact ⟨hk.at h1 (hP 0), h2.kk hB hk (hP 1), h3.kk hB hk (hP 2), h4.kk hk (hP 3), hk.at h5 (hP 4), fun t ht => hk.at (h6 t ht) (hP 5), fun l hl => hk.at (h7 l hl) (hP 6)⟩
theorem isST_t {Γ : yG} {G : yH} {st a : Nat} {S : SA} {w : Int → Int} (h : isST Γ G st a S w) {t : Nat} (ht : (t : Int) < w 10) : G (sTa S t) = some (some (st, 5), twX Γ S w t) := h.2.2.2.2.2.1 t ht
theorem isST_l {Γ : yG} {G : yH} {st a : Nat} {S : SA} {w : Int → Int} (h : isST Γ G st a S w) {l : Nat} (hl : (l : Int) < w 11) : G (sLa S l) = some (some (st, 6), lnX w l) := h.2.2.2.2.2.2 l hl
/-- lenses of towers are there -/
def LSW (w : Int → Int) : Prop := ∀ t, 0 ≤ t → t < w 10 → tw w t 3 < w 11
theorem lnO_n {w : Int → Int} {S : SA} {t : Int} (h : tw w t 3 < 0) : lnO w S t = none := by unfold lnO; rw [if_pos h]
theorem lnO_s {w : Int → Int} {S : SA} {t : Int} (h : 0 ≤ tw w t 3) : lnO w S t = some (sLa S (tw w t 3).toNat) := by unfold lnO; rw [if_neg (by omega)]
/-- a tower's own lens -/
theorem isST_tl {Γ : yG} {G : yH} {st a : Nat} {S : SA} {w : Int → Int} (h : isST Γ G st a S w) (hL : LSW w) {t : Nat} (ht : (t : Int) < w 10) (h3 : 0 ≤ tw w t 3) : G (sLa S (tw w t 3).toNat) = some (some (st, 6), lnE (tw w t 3) (lw w (tw w t 3) 1) (powS w t) (b2i (decide (lw w (tw w t 3) 2 = -2)))) := by
  have h1 := hL t (by omega) ht
  have h2 := isST_l h (l := (tw w t 3).toNat) (by omega)
  unfold lnX at h2
  rw [show (((tw w t 3).toNat : Nat) : Int) = tw w t 3 by omega] at h2
  unfold powS
  rw [if_neg (by omega)]
  exact h2
end St
section X2a
variable {Γ : yG} {G : yH} {st a : Nat} {S : SA} {w : Int → Int}
set_option maxHeartbeats 4000000
theorem c_X2_costOf (hI : isST Γ G st a S w) {p : Int} (hp : 0 ≤ p ∧ p ≤ 60) : Ct_X2_costOf Γ 1 0 0 [.ref a, .int (iI p)] (G) (fun v G' => v = some (.int (iI (1 + w (3 + p / 10)))) ∧ G' = G) (noX) := by
  refine y_start (lv0 := [some (.ref a), some (.int (iI p))]) (nm := "costOf") (own := RX2) (by decide +kernel) rfl rfl (by exact Nat.le_of_ble_eq_true rfl) (by rfl) ?_
  intro Z Q E F
  have hst := hI.1
  have hfg := hI.2.2.2.2.1
  refine y_iconst E dX2_costOf_0 ?_
  first | refine y_ald_n E dX2_costOf_1 (by rfl) ?_ | refine y_aload_n E dX2_costOf_1 (by rfl) ?_
  refine y_get E dX2_costOf_2 fl_X2_28_X2 (hst) (by rfl) ?_
  refine y_iload_n E dX2_costOf_5 (by rfl) ?_
  refine y_bipush E dX2_costOf_6 (by decide) ?_
  refine y_idiv E dX2_costOf_8 (by omega) (by omega) ?_
  refine y_iald E dX2_costOf_9 (hfg) (by omega) ?_
  rw [fgF_at (by omega)]
  refine y_iadd E dX2_costOf_10 ?_
  refine y_ireturn E F rfl rfl dX2_costOf_11 (by omega) (by omega) ⟨(rI (by rfl)), rfl⟩
theorem c_X2_fogAt (hI : isST Γ G st a S w) {p : Int} (hp : 0 ≤ p ∧ p ≤ 60) : Ct_X2_fogAt Γ 1 0 0 [.ref a, .int (iI p)] (G) (fun v G' => v = some (.int (iI (w (3 + p / 10)))) ∧ G' = G) (noX) := by
  refine y_start (lv0 := [some (.ref a), some (.int (iI p))]) (nm := "fogAt") (own := RX2) (by decide +kernel) rfl rfl (by exact Nat.le_of_ble_eq_true rfl) (by rfl) ?_
  intro Z Q E F
  have hst := hI.1
  have hfg := hI.2.2.2.2.1
  first | refine y_ald_n E dX2_fogAt_0 (by rfl) ?_ | refine y_aload_n E dX2_fogAt_0 (by rfl) ?_
  refine y_get E dX2_fogAt_1 fl_X2_28_X2 (hst) (by rfl) ?_
  refine y_iload_n E dX2_fogAt_4 (by rfl) ?_
  refine y_bipush E dX2_fogAt_5 (by decide) ?_
  refine y_idiv E dX2_fogAt_7 (by omega) (by omega) ?_
  refine y_iald E dX2_fogAt_8 (hfg) (by omega) ?_
  rw [fgF_at (by omega)]
  refine y_ireturn E F rfl rfl dX2_fogAt_9 (by omega) (by omega) ⟨(rI (by rfl)), rfl⟩
theorem c_X2_cost (hI : isST Γ G st a S w) {x y : Int} (hx : 0 ≤ x ∧ x ≤ 60) (hy : 0 ≤ y ∧ y ≤ 60) : Ct_X2_cost Γ 2 0 0 [.ref a, .int (iI x), .int (iI y)] (G) (fun v G' => v = some (.int (iI (costS w x y))) ∧ G' = G) (noX) := by
  refine y_start (lv0 := [some (.ref a), some (.int (iI x)), some (.int (iI y)), none, none, none]) (nm := "cost") (own := RX2) (by decide +kernel) rfl rfl (by exact Nat.le_of_ble_eq_true rfl) (by rfl) ?_
  intro Z Q E F
  have hst := hI.1
  have up : x ≤ y → ∀ p n : Int, x ≤ p → p ≤ y → n = cF w (p + 1) - cF w (x + 1) → Y Γ Z 0 0 Q G 17 [some (.ref a), some (.int (iI x)), some (.int (iI y)), some (.int (iI 1)), some (.int (iI n)), some (.int (iI p))] [] := by
    intro hxy
    refine loopDown y ?_
    intro p ih n h0 h1 hn
    refine y_iload E dX2_cost_17 (by rfl) ?_
    refine y_iload_n E dX2_cost_19 (by rfl) ?_
    refine y_icmp_eq (tgt := 45) E dX2_cost_20 (by decide) (by omega) (by omega) (fun h20 => ?_) (fun h20 => ?_)
    · refine y_iload E dX2_cost_45 (by rfl) ?_
      refine y_ireturn E F rfl rfl dX2_cost_47 (by omega) (by omega) ⟨(rI (by unfold costS; split <;> first | (rw [hn, show p = y by omega]; done) | (rw [hn, show x = y by omega, show p = y by omega]; omega))), rfl⟩
    · refine y_iload E dX2_cost_23 (by rfl) ?_
      first | refine y_ald_n E dX2_cost_25 (by rfl) ?_ | refine y_aload_n E dX2_cost_25 (by rfl) ?_
      refine y_iload E dX2_cost_26 (by rfl) ?_
      refine y_iload_n E dX2_cost_28 (by rfl) ?_
      refine y_iadd E dX2_cost_29 ?_
      refine y_callV E dX2_cost_30 lk_X2_85 (c_X2_costOf hI ?_) (by rfl) (hst) rfl (by decide) (by omega) (by omega) rfl (Nat.le_of_ble_eq_true rfl) ?_ (fun _ _ _ h => h.elim)
      · first | omega | (simp (decide := true) only [upN_s, upN_n, upN_upN, upN_id, remT_5, remT_8] <;> omega)
      rintro _ _ ⟨rfl, hG9⟩
      rw [hG9]
      clear hG9
      refine y_iadd E dX2_cost_33 ?_
      refine y_istore E dX2_cost_34 (Nat.le_of_ble_eq_true rfl) ?_
      refine y_iload E dX2_cost_36 (by rfl) ?_
      refine y_iload_n E dX2_cost_38 (by rfl) ?_
      refine y_iadd E dX2_cost_39 ?_
      refine y_istore E dX2_cost_40 (Nat.le_of_ble_eq_true rfl) ?_
      refine y_goto (tgt := 17) E dX2_cost_42 (by decide) ?_
      exact ih (by omega) _ (by omega) (by omega) (by rw [hn, cF_s (w := w) (i := p + 1) (by omega)]; omega)
  have down : y < x → ∀ p n : Int, y ≤ p → p ≤ x → n = cF w x - cF w p → Y Γ Z 0 0 Q G 17 [some (.ref a), some (.int (iI x)), some (.int (iI y)), some (.int (iI (-1))), some (.int (iI n)), some (.int (iI p))] [] := by
    intro hxy
    refine loopUp y ?_
    intro p ih n h0 h1 hn
    refine y_iload E dX2_cost_17 (by rfl) ?_
    refine y_iload_n E dX2_cost_19 (by rfl) ?_
    refine y_icmp_eq (tgt := 45) E dX2_cost_20 (by decide) (by omega) (by omega) (fun h20 => ?_) (fun h20 => ?_)
    · refine y_iload E dX2_cost_45 (by rfl) ?_
      refine y_ireturn E F rfl rfl dX2_cost_47 (by omega) (by omega) ⟨(rI (by unfold costS; rw [if_neg (by omega), hn, show p = y by omega])), rfl⟩
    · refine y_iload E dX2_cost_23 (by rfl) ?_
      first | refine y_ald_n E dX2_cost_25 (by rfl) ?_ | refine y_aload_n E dX2_cost_25 (by rfl) ?_
      refine y_iload E dX2_cost_26 (by rfl) ?_
      refine y_iload_n E dX2_cost_28 (by rfl) ?_
      refine y_iadd E dX2_cost_29 ?_
      refine y_callV E dX2_cost_30 lk_X2_85 (c_X2_costOf hI ?_) (by rfl) (hst) rfl (by decide) (by omega) (by omega) rfl (Nat.le_of_ble_eq_true rfl) ?_ (fun _ _ _ h => h.elim)
      · first | omega | (simp (decide := true) only [upN_s, upN_n, upN_upN, upN_id, remT_5, remT_8] <;> omega)
      rintro _ _ ⟨rfl, hG9⟩
      rw [hG9]
      clear hG9
      refine y_iadd E dX2_cost_33 ?_
      refine y_istore E dX2_cost_34 (Nat.le_of_ble_eq_true rfl) ?_
      refine y_iload E dX2_cost_36 (by rfl) ?_
      refine y_iload_n E dX2_cost_38 (by rfl) ?_
      refine y_iadd E dX2_cost_39 ?_
      refine y_istore E dX2_cost_40 (Nat.le_of_ble_eq_true rfl) ?_
      refine y_goto (tgt := 17) E dX2_cost_42 (by decide) ?_
      exact ih (by omega) _ (by omega) (by omega) (by have e := cF_s (w := w) (i := p - 1) (by omega); rw [show p - 1 + 1 = p by omega] at e; rw [hn, e]; show _ + (1 + w (3 + (p - 1) / 10)) = _; omega)
  refine y_iload_n E dX2_cost_0 (by rfl) ?_
  refine y_iload_n E dX2_cost_1 (by rfl) ?_
  refine y_icmp_ge (tgt := 9) E dX2_cost_2 (by decide) (by omega) (by omega) (fun h2 => ?_) (fun h2 => ?_)
  · refine y_iconst E dX2_cost_9 ?_
    refine y_istore_n (j := 3) E dX2_cost_10 rfl (Nat.le_of_ble_eq_true rfl) ?_
    refine y_iconst E dX2_cost_11 ?_
    refine y_istore E dX2_cost_12 (Nat.le_of_ble_eq_true rfl) ?_
    refine y_iload_n E dX2_cost_14 (by rfl) ?_
    refine y_istore E dX2_cost_15 (Nat.le_of_ble_eq_true rfl) ?_
    first
      | exact down (by omega) _ _ (by omega) (by omega) (by omega)
      | exact up (by omega) _ _ (by omega) (by omega) (by omega)
  · refine y_iconst E dX2_cost_5 ?_
    refine y_goto (tgt := 10) E dX2_cost_6 (by decide) ?_
    refine y_istore_n (j := 3) E dX2_cost_10 rfl (Nat.le_of_ble_eq_true rfl) ?_
    refine y_iconst E dX2_cost_11 ?_
    refine y_istore E dX2_cost_12 (Nat.le_of_ble_eq_true rfl) ?_
    refine y_iload_n E dX2_cost_14 (by rfl) ?_
    refine y_istore E dX2_cost_15 (Nat.le_of_ble_eq_true rfl) ?_
    first
      | exact down (by omega) _ _ (by omega) (by omega) (by omega)
      | exact up (by omega) _ _ (by omega) (by omega) (by omega)
theorem c_X2_reaches (hB : gB Γ G) (hI : isST Γ G st a S w) (hS : SH w) (hL : LSW w) {t : Nat} {p : Int} (ht : (t : Int) < w 10) (hp : 0 ≤ p ∧ p ≤ 60) : Ct_X2_reaches Γ 3 0 0 [.ref a, .ref (sTa S t), .int (iI p)] (G) (fun v G' => v = some (.int (iI (b2i (dB (rchP w t p))))) ∧ G' = G) (noX) := by
  refine y_start (lv0 := [some (.ref a), some (.ref (sTa S t)), some (.int (iI p))]) (nm := "reaches") (own := RX2) (by decide +kernel) rfl rfl (by exact Nat.le_of_ble_eq_true rfl) (by rfl) ?_
  intro Z Q E F
  have hst := hI.1
  have hn := hS.nt
  have hSt := hS.t (t := (t : Int)) (by omega) (by omega)
  have hpw := hS.pow (t := (t : Int)) (by omega) (by omega)
  have hco := hS.cost (a := tw w t 0) (b := p) (by omega) hp
  have hc0 : costS w (tw w t 0) (tw w t 0) = 0 := by unfold costS; rw [if_neg (by omega)]; omega
  have htw := isST_t hI ht
  unfold twX at htw
  by_cases h3 : tw w t 3 < 0
  · rw [lnO_n h3] at htw
    first | refine y_ald_n E dX2_reaches_0 (by rfl) ?_ | refine y_aload_n E dX2_reaches_0 (by rfl) ?_
    refine y_getN E dX2_reaches_1 fl_X2_62_X6 (htw) (by rfl) ?_
    refine y_ifnonnull_n E dX2_reaches_4 ?_
    refine y_iconst E dX2_reaches_7 ?_
    refine y_ireturn E F rfl rfl dX2_reaches_8 (by omega) (by omega) ⟨(rF (fun q => by have := q.1; omega)), rfl⟩
  · rw [lnO_s (by omega)] at htw
    have hln := isST_tl hI hL ht (by omega)
    have hlp := hS.l (l := tw w t 3) (by omega) (by omega)
    have hpe : powS w t = lw w (tw w t 3) 0 := by unfold powS; rw [if_neg h3]
    have K29 : ∀ bb : Bool, p ≠ tw w t 0 → (bb = true ↔ (tw w t 1 = 0 ∨ (tw w t 1 = 1 ∧ p < tw w t 0) ∨ (tw w t 1 ≠ 0 ∧ tw w t 1 ≠ 1 ∧ tw w t 0 < p))) → Y Γ Z 0 0 Q G 29 [some (.ref a), some (.ref (sTa S t)), some (.int (iI p))] [.int (iI (b2i bb))] := by
      intro bb hne hbb
      refine y_ifb_eq (tgt := 55) E dX2_reaches_29 (by decide) (fun h29 => ?_) (fun h29 => ?_)
      · refine y_iconst E dX2_reaches_55 ?_
        refine y_ireturn E F rfl rfl dX2_reaches_56 (by omega) (by omega) ⟨(rF (by unfold rchP; first | (have q := hbb.mp h29; omega) | (have q : ¬ (tw w t 1 = 0 ∨ (tw w t 1 = 1 ∧ p < tw w t 0) ∨ (tw w t 1 ≠ 0 ∧ tw w t 1 ≠ 1 ∧ tw w t 0 < p)) := fun z => (by have z2 := hbb.mpr z; rw [h29] at z2; cases z2); omega))), rfl⟩
      · first | refine y_ald_n E dX2_reaches_32 (by rfl) ?_ | refine y_aload_n E dX2_reaches_32 (by rfl) ?_
        first | refine y_ald_n E dX2_reaches_33 (by rfl) ?_ | refine y_aload_n E dX2_reaches_33 (by rfl) ?_
        refine y_getN E dX2_reaches_34 fl_X2_89_X6 (htw) (by rfl) ?_
        refine y_iload_n E dX2_reaches_37 (by rfl) ?_
        refine y_callV E dX2_reaches_38 lk_X2_102 (c_X2_cost hI ?_ ?_) (by rfl) (hst) rfl (by decide) (by omega) (by omega) rfl (Nat.le_of_ble_eq_true rfl) ?_ (fun _ _ _ h => h.elim)
        · first | omega | (simp (decide := true) only [upN_s, upN_n, upN_upN, upN_id, remT_5, remT_8] <;> omega)
        · first | omega | (simp (decide := true) only [upN_s, upN_n, upN_upN, upN_id, remT_5, remT_8] <;> omega)
        rintro _ _ ⟨rfl, hG9⟩
        rw [hG9]
        clear hG9
        first | refine y_ald_n E dX2_reaches_41 (by rfl) ?_ | refine y_aload_n E dX2_reaches_41 (by rfl) ?_
        refine y_getN E dX2_reaches_42 fl_X2_62_X6 (htw) (by rfl) ?_
        refine y_getN E dX2_reaches_45 fl_X2_106_X5 (hln) (by rfl) ?_
        refine y_icmp_gt (tgt := 55) E dX2_reaches_48 (by decide) (by omega) (by omega) (fun h48 => ?_) (fun h48 => ?_)
        · refine y_iconst E dX2_reaches_55 ?_
          refine y_ireturn E F rfl rfl dX2_reaches_56 (by omega) (by omega) ⟨(rF (by unfold rchP; first | (have q := hbb.mp h29; omega) | (have q : ¬ (tw w t 1 = 0 ∨ (tw w t 1 = 1 ∧ p < tw w t 0) ∨ (tw w t 1 ≠ 0 ∧ tw w t 1 ≠ 1 ∧ tw w t 0 < p)) := fun z => (by have z2 := hbb.mpr z; rw [h29] at z2; cases z2); omega))), rfl⟩
        · refine y_iconst E dX2_reaches_51 ?_
          refine y_goto (tgt := 56) E dX2_reaches_52 (by decide) ?_
          refine y_ireturn E F rfl rfl dX2_reaches_56 (by omega) (by omega) ⟨(rT (by unfold rchP; first | (have q := hbb.mp h29; omega) | (have q : ¬ (tw w t 1 = 0 ∨ (tw w t 1 = 1 ∧ p < tw w t 0) ∨ (tw w t 1 ≠ 0 ∧ tw w t 1 ≠ 1 ∧ tw w t 0 < p)) := fun z => (by have z2 := hbb.mpr z; rw [h29] at z2; cases z2); omega))), rfl⟩
    first | refine y_ald_n E dX2_reaches_0 (by rfl) ?_ | refine y_aload_n E dX2_reaches_0 (by rfl) ?_
    refine y_getN E dX2_reaches_1 fl_X2_62_X6 (htw) (by rfl) ?_
    refine y_ifnonnull_r (tgt := 9) E dX2_reaches_4 (by decide) ?_
    refine y_iload_n E dX2_reaches_9 (by rfl) ?_
    first | refine y_ald_n E dX2_reaches_10 (by rfl) ?_ | refine y_aload_n E dX2_reaches_10 (by rfl) ?_
    refine y_getN E dX2_reaches_11 fl_X2_89_X6 (htw) (by rfl) ?_
    refine y_icmp_eq (tgt := 51) E dX2_reaches_14 (by decide) (by omega) (by omega) (fun h14 => ?_) (fun h14 => ?_)
    · refine y_iconst E dX2_reaches_51 ?_
      refine y_goto (tgt := 56) E dX2_reaches_52 (by decide) ?_
      refine y_ireturn E F rfl rfl dX2_reaches_56 (by omega) (by omega) ⟨(rT (by unfold rchP; rw [h14]; omega)), rfl⟩
    · first | refine y_ald_n E dX2_reaches_17 (by rfl) ?_ | refine y_aload_n E dX2_reaches_17 (by rfl) ?_
      refine y_getN E dX2_reaches_18 fl_X2_92_X6 (htw) (by rfl) ?_
      first | refine y_ald_n E dX2_reaches_21 (by rfl) ?_ | refine y_aload_n E dX2_reaches_21 (by rfl) ?_
      refine y_getN E dX2_reaches_22 fl_X2_89_X6 (htw) (by rfl) ?_
      refine y_iload_n E dX2_reaches_25 (by rfl) ?_
      rcases (show tw w t 1 = 0 ∨ tw w t 1 = 1 ∨ tw w t 1 = 2 by omega) with e | e | e
      · rw [e]
        refine y_callUU E dX2_reaches_26 lu_X2_96_X9 (cu_has1) (by rfl) hB.2.1 rfl (by decide) (by omega) (by omega) rfl (Nat.le_of_ble_eq_true rfl) (Nat.le_of_ble_eq_true rfl) ?_
        rintro _ _ ⟨rfl, rfl⟩
        exact K29 _ h14 ⟨fun _ => Or.inl e, fun _ => rfl⟩
      · rw [e]
        refine y_callUU E dX2_reaches_26 lu_X2_96_X10 (cu_has2 (x := tw w t 0) (y := p) (by omega) (by omega)) (by rfl) hB.2.2.1 rfl (by decide) (by omega) (by omega) rfl (Nat.le_of_ble_eq_true rfl) (Nat.le_of_ble_eq_true rfl) ?_
        rintro _ _ ⟨rfl, rfl⟩
        refine K29 _ h14 ?_
        unfold yHas
        simp only [Nat.one_ne_zero, if_false, if_true, decide_eq_true_iff]
        omega
      · rw [e]
        refine y_callUU E dX2_reaches_26 lu_X2_96_X11 (cu_has3 (x := tw w t 0) (y := p) (by omega) (by omega)) (by rfl) hB.2.2.2.1 rfl (by decide) (by omega) (by omega) rfl (Nat.le_of_ble_eq_true rfl) (Nat.le_of_ble_eq_true rfl) ?_
        rintro _ _ ⟨rfl, rfl⟩
        refine K29 _ h14 ?_
        unfold yHas
        rw [if_neg (by decide), if_neg (by decide), decide_eq_true_iff]
        omega
theorem c_X2_canSignal (hB : gB Γ G) (hI : isST Γ G st a S w) (hS : SH w) (hL : LSW w) {t u : Nat} (ht : (t : Int) < w 10) (hu : (u : Int) < w 10) : Ct_X2_canSignal Γ 4 0 0 [.ref a, .ref (sTa S t), .ref (sTa S u)] (G) (fun v G' => v = some (.int (iI (b2i (dB (csP w t u))))) ∧ G' = G) (noX) := by
  refine y_start (lv0 := [some (.ref a), some (.ref (sTa S t)), some (.ref (sTa S u))]) (nm := "canSignal") (own := RX2) (by decide +kernel) rfl rfl (by exact Nat.le_of_ble_eq_true rfl) (by rfl) ?_
  intro Z Q E F
  have hst := hI.1
  have hn := hS.nt
  have hSt := hS.t (t := (t : Int)) (by omega) (by omega)
  have hSu := hS.t (t := (u : Int)) (by omega) (by omega)
  have htw := isST_t hI ht
  have huw := isST_t hI hu
  unfold twX twE at htw huw
  first | refine y_ald_n E dX2_canSignal_0 (by rfl) ?_ | refine y_aload_n E dX2_canSignal_0 (by rfl) ?_
  refine y_getN E dX2_canSignal_1 fl_X2_137_X6 (htw) (by rfl) ?_
  first | refine y_ald_n E dX2_canSignal_4 (by rfl) ?_ | refine y_aload_n E dX2_canSignal_4 (by rfl) ?_
  refine y_getN E dX2_canSignal_5 fl_X2_137_X6 (huw) (by rfl) ?_
  refine y_icmp_eq (tgt := 41) E dX2_canSignal_8 (by decide) (by omega) (by omega) (fun h8 => ?_) (fun h8 => ?_)
  · refine y_iconst E dX2_canSignal_41 ?_
    refine y_ireturn E F rfl rfl dX2_canSignal_42 (by omega) (by omega) ⟨(rF (by unfold csP; first | exact ⟨by omega, by omega, by omega, h34⟩ | exact fun q => h34 q.2.2.2 | (intro q; have q1 := q.1; have q2 := q.2.1; have q3 := q.2.2.1; omega))), rfl⟩
  · first | refine y_ald_n E dX2_canSignal_11 (by rfl) ?_ | refine y_aload_n E dX2_canSignal_11 (by rfl) ?_
    refine y_getN E dX2_canSignal_12 fl_X2_133_X6 (htw) (by rfl) ?_
    refine y_if_eq (tgt := 41) E dX2_canSignal_15 (by decide) (by omega) (fun h15 => ?_) (fun h15 => ?_)
    · refine y_iconst E dX2_canSignal_41 ?_
      refine y_ireturn E F rfl rfl dX2_canSignal_42 (by omega) (by omega) ⟨(rF (by unfold csP; first | exact ⟨by omega, by omega, by omega, h34⟩ | exact fun q => h34 q.2.2.2 | (intro q; have q1 := q.1; have q2 := q.2.1; have q3 := q.2.2.1; omega))), rfl⟩
    · first | refine y_ald_n E dX2_canSignal_18 (by rfl) ?_ | refine y_aload_n E dX2_canSignal_18 (by rfl) ?_
      refine y_getN E dX2_canSignal_19 fl_X2_161_X6 (huw) (by rfl) ?_
      refine y_if_ne (tgt := 41) E dX2_canSignal_22 (by decide) (by omega) (fun h22 => ?_) (fun h22 => ?_)
      · refine y_iconst E dX2_canSignal_41 ?_
        refine y_ireturn E F rfl rfl dX2_canSignal_42 (by omega) (by omega) ⟨(rF (by unfold csP; first | exact ⟨by omega, by omega, by omega, h34⟩ | exact fun q => h34 q.2.2.2 | (intro q; have q1 := q.1; have q2 := q.2.1; have q3 := q.2.2.1; omega))), rfl⟩
      · first | refine y_ald_n E dX2_canSignal_25 (by rfl) ?_ | refine y_aload_n E dX2_canSignal_25 (by rfl) ?_
        first | refine y_ald_n E dX2_canSignal_26 (by rfl) ?_ | refine y_aload_n E dX2_canSignal_26 (by rfl) ?_
        first | refine y_ald_n E dX2_canSignal_27 (by rfl) ?_ | refine y_aload_n E dX2_canSignal_27 (by rfl) ?_
        refine y_getN E dX2_canSignal_28 fl_X2_89_X6 (huw) (by rfl) ?_
        refine y_callV E dX2_canSignal_31 lk_X2_114 (c_X2_reaches hB hI hS hL ?_ ?_) (by rfl) (hst) rfl (by decide) (by omega) (by omega) rfl (Nat.le_of_ble_eq_true rfl) ?_ (fun _ _ _ h => h.elim)
        · first | omega | (simp (decide := true) only [upN_s, upN_n, upN_upN, upN_id, remT_5, remT_8] <;> omega)
        · first | omega | (simp (decide := true) only [upN_s, upN_n, upN_upN, upN_id, remT_5, remT_8] <;> omega)
        rintro _ _ ⟨rfl, hG9⟩
        rw [hG9]
        clear hG9
        refine y_ifd_eq (tgt := 41) E dX2_canSignal_34 (by decide) (fun h34 => ?_) (fun h34 => ?_)
        · refine y_iconst E dX2_canSignal_41 ?_
          refine y_ireturn E F rfl rfl dX2_canSignal_42 (by omega) (by omega) ⟨(rF (by unfold csP; first | exact ⟨by omega, by omega, by omega, h34⟩ | exact fun q => h34 q.2.2.2 | (intro q; have q1 := q.1; have q2 := q.2.1; have q3 := q.2.2.1; omega))), rfl⟩
        · refine y_iconst E dX2_canSignal_37 ?_
          refine y_goto (tgt := 42) E dX2_canSignal_38 (by decide) ?_
          refine y_ireturn E F rfl rfl dX2_canSignal_42 (by omega) (by omega) ⟨(rT (by unfold csP; first | exact ⟨by omega, by omega, by omega, h34⟩ | exact fun q => h34 q.2.2.2 | (intro q; have q1 := q.1; have q2 := q.2.1; have q3 := q.2.2.1; omega))), rfl⟩
theorem c_X2_margin (hI : isST Γ G st a S w) (hS : SH w) (hL : LSW w) {t u : Nat} (ht : (t : Int) < w 10) (hu : (u : Int) < w 10) (h3 : 0 ≤ tw w t 3) : Ct_X2_margin Γ 3 0 0 [.ref a, .ref (sTa S t), .ref (sTa S u)] (G) (fun v G' => v = some (.int (iI (marS w t u))) ∧ G' = G) (noX) := by
  refine y_start (lv0 := [some (.ref a), some (.ref (sTa S t)), some (.ref (sTa S u))]) (nm := "margin") (own := RX2) (by decide +kernel) rfl rfl (by exact Nat.le_of_ble_eq_true rfl) (by rfl) ?_
  intro Z Q E F
  have hst := hI.1
  have hn := hS.nt
  have hSt := hS.t (t := (t : Int)) (by omega) (by omega)
  have hSu := hS.t (t := (u : Int)) (by omega) (by omega)
  have htw := isST_t hI ht
  have huw := isST_t hI hu
  unfold twX twE at htw huw
  rw [lnO_s h3] at htw
  have hln := isST_tl hI hL ht h3
  first | refine y_ald_n E dX2_margin_0 (by rfl) ?_ | refine y_aload_n E dX2_margin_0 (by rfl) ?_
  refine y_getN E dX2_margin_1 fl_X2_62_X6 (htw) (by rfl) ?_
  refine y_getN E dX2_margin_4 fl_X2_106_X5 (hln) (by rfl) ?_
  first | refine y_ald_n E dX2_margin_7 (by rfl) ?_ | refine y_aload_n E dX2_margin_7 (by rfl) ?_
  first | refine y_ald_n E dX2_margin_8 (by rfl) ?_ | refine y_aload_n E dX2_margin_8 (by rfl) ?_
  refine y_getN E dX2_margin_9 fl_X2_89_X6 (htw) (by rfl) ?_
  first | refine y_ald_n E dX2_margin_12 (by rfl) ?_ | refine y_aload_n E dX2_margin_12 (by rfl) ?_
  refine y_getN E dX2_margin_13 fl_X2_89_X6 (huw) (by rfl) ?_
  refine y_callV E dX2_margin_16 lk_X2_102 (c_X2_cost hI ?_ ?_) (by rfl) (hst) rfl (by decide) (by omega) (by omega) rfl (Nat.le_of_ble_eq_true rfl) ?_ (fun _ _ _ h => h.elim)
  · first | omega | (simp (decide := true) only [upN_s, upN_n, upN_upN, upN_id, remT_5, remT_8] <;> omega)
  · first | omega | (simp (decide := true) only [upN_s, upN_n, upN_upN, upN_id, remT_5, remT_8] <;> omega)
  rintro _ _ ⟨rfl, hG9⟩
  rw [hG9]
  clear hG9
  refine y_isub E dX2_margin_19 ?_
  refine y_ireturn E F rfl rfl dX2_margin_20 (by omega) (by omega) ⟨(rI (by rfl)), rfl⟩
end X2a
