/-! ===== State.night ===== -/
section Ng
variable {Γ : yG} {G : yH} {st a : Nat} {S : SA} {w : Int → Int}
theorem gs_0 {G : yH} {a q : Nat} {v : yT × yE} (h : gset G a v q = none) : G q = none := by
  by_cases e : q = a
  · rw [e, gset_s] at h
    cases h
  · rwa [gset_n _ e] at h
/-- a lens has at most its first power -/
def PF (w : Int → Int) : Prop := ∀ l, 0 ≤ l → l < w 11 → lw w l 0 ≤ lw w l 1
/-- the lenses of the store are there -/
def SW (w : Int → Int) : Prop := ∀ k, 0 ≤ k → k < w 12 → w (13 + k) < w 11
theorem lessS_b (w : Int → Int) (t : Int) : lessS w t = 1 ∨ lessS w t = 2 := by unfold lessS; split <;> simp
theorem ng1_PF {x : Int → Int} (hx : SH x) {t : Int} (t0 : 0 ≤ t) (t8 : t < 8) (hl : tw x t 4 = 1 → 0 ≤ tw x t 3) (hP : PF x) : PF (ng1 t x) := by
  have h2 := hx.t t0 t8
  have h11 := hx.nl
  unfold ng1
  split
  · rename_i h4
    have h3 := hl h4
    intro l l0 l1
    rw [upI_n _ (by omega)] at l1
    have hb := hx.l (l := l) l0 (by omega)
    have hp := hP l l0 l1
    have hs := lessS_b x t
    unfold lw at hb hp ⊢
    rw [upI_n (j := 89 + 3 * l + 1) _ (by omega)]
    by_cases e : l = tw x t 3
    · rw [e] at hb hp ⊢
      rw [upI_s]
      generalize x (89 + 3 * tw x t 3 + 0) = p at *
      generalize x (89 + 3 * tw x t 3 + 1) = f at *
      omega
    · rw [upI_n _ (by omega)]
      exact hp
  · exact hP
theorem ng2_PF {x : Int → Int} (hx : SH x) {i : Int} (h0 : 0 ≤ i) (h1 : i < 12) (hP : PF x) : PF (ng2 i x) := by
  have h3 := hx.sto (k := i) h0 h1
  have h11 := hx.nl
  unfold ng2
  intro l l0 l1
  rw [upI_n _ (by omega)] at l1
  have hp := hP l l0 l1
  unfold lw at hp ⊢
  rw [upI_n (j := 89 + 3 * l + 1) _ (by omega)]
  by_cases e : l = x (13 + i)
  · rw [e] at hp ⊢
    rw [upI_s]
    generalize x (89 + 3 * x (13 + i) + 0) = p at *
    generalize x (89 + 3 * x (13 + i) + 1) = f at *
    split <;> omega
  · rw [upI_n _ (by omega)]
    exact hp
theorem lnX_0 {l : Nat} {v : Int} : lnX (upI w (89 + 3 * (l : Int) + 0) v) l = lnE l (lw w l 1) v (b2i (decide (lw w l 2 = -2))) := by
  unfold lnX lw
  rw [upI_s, upI_n _ (by omega), upI_n _ (by omega)]
theorem lnX_ng {x : Int → Int} {i b : Int} (h4 : tw x i 4 = 1) (h3 : 0 ≤ tw x i 3) (hb : lessS x i = b) : lnX (ng1 i x) (tw x i 3).toNat = lnE (tw x i 3) (lw x (tw x i 3) 1) (max 0 (powS x i - b)) (b2i (decide (lw x (tw x i 3) 2 = -2))) := by
  have e : (((tw x i 3).toNat : Nat) : Int) = tw x i 3 := by omega
  unfold ng1
  rw [if_pos h4]
  have := lnX_0 (w := x) (l := (tw x i 3).toNat) (v := max 0 (x (89 + 3 * tw x i 3 + 0) - lessS x i))
  rw [e] at this
  rw [this, hb]
  unfold powS
  rw [if_neg (by omega)]
  rfl
theorem lnX_ng2 {x : Int → Int} {i : Int} (h3 : 0 ≤ x (13 + i)) (hp : lw x (x (13 + i)) 0 ≤ lw x (x (13 + i)) 1) : lnX (ng2 i x) (x (13 + i)).toNat = lnE (x (13 + i)) (lw x (x (13 + i)) 1) (min (lw x (x (13 + i)) 1) (lw x (x (13 + i)) 0 + 1)) (b2i (decide (lw x (x (13 + i)) 2 = -2))) := by
  have e : (((x (13 + i)).toNat : Nat) : Int) = x (13 + i) := by omega
  unfold ng2
  generalize x (13 + i) = m at *
  have := lnX_0 (w := x) (l := m.toNat) (v := x (89 + 3 * m + 0) + (if x (89 + 3 * m + 0) < x (89 + 3 * m + 1) then 1 else 0))
  rw [e] at this
  rw [this]
  unfold lw at hp ⊢
  generalize x (89 + 3 * m + 0) = p at *
  generalize x (89 + 3 * m + 1) = f at *
  rw [show p + (if p < f then 1 else 0) = min f (p + 1) by split <;> omega]
theorem soL_len (S : SA) (w : Int → Int) : (soL S w).length = (w 12).toNat := by simp [soL]
theorem soL_at {i : Nat} (h : (i : Int) < w 12) : (soL S w)[i]? = some (sLa S (w (13 + (i : Int))).toNat) := by
  unfold soL
  rw [List.getElem?_map, List.getElem?_range (by omega)]
  rfl
theorem c_li_nextS {it a q : Nat} {τ : Nat × Nat} {ys : List Nat} {k : Nat} (h : isLI G it a τ (ys.map some) k) (hτ : τ ≠ yT0) (hx : ys[k]? = some q) (hl : ys.length ≤ 60000) : Ct_J35_next Γ 2 0 0 [.ref it] G (fun r G' => r = some (.ref q) ∧ isLI G' it a τ (ys.map some) (k + 1) ∧ ∃ v, G' = gset G it (some yT0, v)) noX := c_li_next (x := some q) h hτ (by rw [List.getElem?_map, hx]; rfl) (by simpa using hl)
theorem c_li_hasS {it a : Nat} {τ : Nat × Nat} {ys : List Nat} {k : Nat} (h : isLI G it a τ (ys.map some) k) (hk : k ≤ ys.length) (hl : ys.length ≤ 60000) : Ct_J35_hasNext Γ 1 0 0 [.ref it] G (fun r G' => r = some (.int (iI (b2i (dB (k < ys.length))))) ∧ G' = G) noX := by
  have := c_li_has (Γ := Γ) h (by rw [List.length_map]; exact hk) (by rw [List.length_map]; exact hl)
  rw [List.length_map] at this
  exact this
theorem LSW_c {x v : Int → Int} (h10 : x 10 = v 10) (h11 : x 11 = v 11) (h : ∀ t, 0 ≤ t → t < v 10 → tw x t 3 = tw v t 3) (hL : LSW v) : LSW x := fun t t0 t1 => by
  rw [h10] at t1
  rw [h t t0 t1, h11]
  exact hL t t0 t1
set_option maxHeartbeats 4000000
theorem c_X2_night (hs0 : 0 < st) (hB : gB Γ G) (hI : isST Γ G st a S w) (hS : SH w) (hL : LSW w) (hU : UT w) (hT : LT w) (hP : PF w) (hW : SW w) (hO : gOK G) : Ct_X2_night Γ 10 1092 2353 [.ref a] (G) (fun v G' => v = some (.int (iI (lokN (ngB (ngA w))))) ∧ isST Γ G' st a S (ngtS w) ∧ gK (fun τ => τ = (st, 0) ∨ τ = (st, 5) ∨ τ = (st, 6)) G G' ∧ gOK G') (noX) := by
  refine y_start (lv0 := [some (.ref a), none, none]) (nm := "night") (own := RX2) (by decide +kernel) rfl rfl (by exact Nat.le_of_ble_eq_true rfl) (by rfl) ?_
  intro Z Q E F
  have hst := hI.1
  have hn := hS.nt
  have hs := hS.ns
  have hlen := twL_len S w
  have hlso := soL_len S w
  obtain ⟨a1, a2, a3, a10, a12⟩ := ngA_all hS hU hT
  obtain ⟨b1, b2, b3, b10⟩ := ngB_all a1 a2 a3
  obtain ⟨aa, ab⟩ := ngA_ok hS hT (w 10) (by omega) (by omega)
  have a11 : ngA w 11 = w 11 := ab 11 (by omega) (by omega)
  have aL : LSW (ngA w) := LSW_c a10 a11 (fun t t0 t1 => ab _ (by omega) (by omega)) hL
  obtain ⟨ba, bb⟩ := ngB_ok a1 (w 12) (by omega) (by omega)
  rw [← a12] at ba bb
  have b11 : ngB (ngA w) 11 = ngA w 11 := bb 11 (by omega)
  have bL : LSW (ngB (ngA w)) := LSW_c b10 b11 (fun t t0 t1 => bb _ (by omega)) aL
  have aW : SW (ngA w) := fun k k0 k1 => by have e : ngA w (13 + k) = w (13 + k) := ab _ (by omega) (by omega); rw [a11, e]; exact hW k k0 (by omega)
  have P105 : ∀ (G1 : yH) (z : Int → Int) (l1 l2 : Option Value), z = ngB (ngA w) → gK (fun τ => τ = (st, 0) ∨ τ = (st, 5) ∨ τ = (st, 6)) G G1 → gOK G1 → isST Γ G1 st a S z → Y Γ Z 2 9 Q G1 105 [some (.ref a), l1, l2] [] := by
    intro G1 z l1 l2 hz hK hO1 hI1
    subst hz
    have hst1 := hI1.1
    have hB1 := hB.kk hK
    first | refine y_ald_n E dX2_night_105 (by rfl) ?_ | refine y_aload_n E dX2_night_105 (by rfl) ?_
    refine y_callV E dX2_night_106 lk_X2_157 (c_X2_look hs0 hB1 hI1 b1 bL b2 hO1) (by rfl) (hst1) rfl (by decide) (by omega) (by omega) rfl (Nat.le_of_ble_eq_true rfl) ?_ (fun _ _ _ h => h.elim)
    rintro _ G2 ⟨rfl, hI2, hk2, hO2⟩
    refine y_ireturn E F rfl rfl dX2_night_109 (by omega) (by omega) ⟨rfl, hI2, gK_t hK (gK_m hk2 (fun τ q => by rcases q with q | q <;> simp [q])), hO2⟩
  have L2 : ∀ it, G it = none → ∀ i : Nat, ∀ (G1 : yH) (y : Int → Int) (l2 : Option Value), y = itI ng2 i (ngA w) → gK (fun τ => τ = (st, 0) ∨ τ = (st, 5) ∨ τ = (st, 6)) G G1 → gOK G1 → isLI G1 it (sSl S) (st, 3) ((soL S w).map some) i → isST Γ G1 st a S y → PF y → (i : Int) ≤ w 12 → Y Γ Z 2 9 Q G1 79 [some (.ref a), some (.ref it), l2] [] := by
    intro it h0
    refine loopDownN (w 12).toNat ?_
    intro i ih G1 y l2 hye hK hO1 hit hI1 hPy hi
    obtain ⟨hy, hyk⟩ := ngB_ok a1 i (by omega) (by omega)
    rw [← hye] at hy hyk
    obtain ⟨fs, hitc⟩ := hit.c
    have hyi : y (13 + (i : Int)) = w (13 + (i : Int)) := (hyk _ (by omega)).trans (ab _ (by omega) (by omega))
    have y11 : y 11 = w 11 := (hyk _ (by omega)).trans a11
    have hl11 := hy.nl
    first | refine y_ald_n E dX2_night_79 (by rfl) ?_ | refine y_aload_n E dX2_night_79 (by rfl) ?_
    refine y_callF E dX2_night_80 lk_X2_37_J35 (c_li_hasS hit (by omega) (by omega)) (by rfl) (hitc) rfl (by decide) (by omega) (by omega) rfl (Nat.le_of_ble_eq_true rfl) ?_ (fun _ _ _ h => h.elim)
    rintro _ _ ⟨rfl, hG9⟩
    rw [hG9]
    clear hG9
    refine y_ifd_eq (tgt := 105) E dX2_night_85 (by decide) (fun h85 => ?_) (fun h85 => ?_)
    · exact P105 G1 y _ _ (by rw [hye, show (i : Int) = w 12 by omega, ← a12]; rfl) hK hO1 hI1
    · first | refine y_ald_n E dX2_night_88 (by rfl) ?_ | refine y_aload_n E dX2_night_88 (by rfl) ?_
      refine y_callF E dX2_night_89 lk_X2_43_J35 (c_li_nextS hit (by simp [yT0]) (soL_at (by omega)) (by omega)) (by rfl) (hitc) rfl (by decide) (by omega) (by omega) rfl (Nat.le_of_ble_eq_true rfl) ?_ (fun _ _ _ h => h.elim)
      rintro _ G2 ⟨rfl, hit2, vv, hG9⟩
      have hlen2 : (i : Int) < w 12 := by omega
      have hb := hy.l (l := y (13 + (i : Int))) (by have := hy.sto (k := (i : Int)) (by omega) (by omega); omega) (by have := hW i (by omega) hlen2; omega)
      have hy0 := hy.sto (k := (i : Int)) (by omega) (by omega)
      have hwi := hW i (by omega) hlen2
      have hk2 : gK (· = yT0) G1 G2 := by rw [hG9]; exact gK_w _ hitc rfl
      have hK2 : gK (fun τ => τ = (st, 0) ∨ τ = (st, 5) ∨ τ = (st, 6)) G G2 := by rw [hG9]; exact gK_fr hK h0 _
      have hO2 : gOK G2 := by rw [hG9]; exact gOK_it hO1
      have hB1 : gB Γ G1 := hB.kk hK
      have hI2 := hI1.kk hB1 hk2 (fun j q => by cases q; omega)
      have hB2 := hB.kk hK2
      have hlc := isST_l hI2 (l := (y (13 + (i : Int))).toNat) (by omega)
      unfold lnX at hlc
      rw [show (((y (13 + (i : Int))).toNat : Nat) : Int) = y (13 + (i : Int)) by omega] at hlc
      rw [← hyi]
      refine y_ccast E dX2_night_94 q949 (hlc) rfl (Or.inl rfl) ?_
      first | refine y_ast_n (j := 2) E dX2_night_97 rfl (Nat.le_of_ble_eq_true rfl) ?_ | refine y_astore_n (j := 2) E dX2_night_97 rfl (Nat.le_of_ble_eq_true rfl) ?_ | refine y_astore_n (j := 2) (r := none) E dX2_night_97 rfl (Nat.le_of_ble_eq_true rfl) ?_
      first | refine y_ald_n E dX2_night_98 (by rfl) ?_ | refine y_aload_n E dX2_night_98 (by rfl) ?_
      refine y_callV E dX2_night_99 lk_X2_154 (c_X5_rest hlc (by unfold lw at hb; unfold lw; omega) (by unfold lw at hb; unfold lw; omega)) (by rfl) (hlc) rfl (by decide) (by omega) (by omega) rfl (Nat.le_of_ble_eq_true rfl) ?_ (fun _ _ _ h => h.elim)
      rintro _ _ ⟨rfl, hG9⟩
      rw [hG9]
      clear hG9
      refine y_heap (show _ = gset G2 (sLa S (y (13 + (i : Int))).toNat) (some (st, 6), lnX (ng2 i y) (y (13 + (i : Int))).toNat) from by rw [lnX_ng2 (by omega) (hPy _ (by omega) (by omega))]) ?_
      obtain ⟨hI3, hk3, -⟩ := isST_lset hB2 hI2 hy (l := (y (13 + (i : Int))).toNat) (by omega) (v := ng2 i y) (fun k hk => upI_n _ (by omega))
      have hK3 := gK_t hK2 (gK_m hk3 (fun τ q => Or.inr (Or.inr q)))
      have hO3 := gOK_t (j := 6) (a := sLa S (y (13 + (i : Int))).toNat) (e := lnX (ng2 i y) (y (13 + (i : Int))).toNat) hO2 hs0
      have hit3 := hit2.kk hk3 (fun q => by cases q) (fun q => by cases q)
      refine y_goto (tgt := 79) E dX2_night_102 (by decide) ?_
      exact ih (by omega) _ (ng2 i y) _ (by rw [show ((i + 1 : Nat) : Int) = (i : Int) + 1 by omega, itI_s (by omega), ← hye]) hK3 hO3 hit3 hI3 (ng2_PF hy (by omega) (by omega) hPy) (by omega)
  have P71 : ∀ (G1 : yH) (l1 l2 : Option Value), gK (fun τ => τ = (st, 0) ∨ τ = (st, 5) ∨ τ = (st, 6)) G G1 → gOK G1 → isST Γ G1 st a S (ngA w) → PF (ngA w) → (∀ q, G1 q = none → G q = none) → Y Γ Z 1 4 Q G1 71 [some (.ref a), l1, l2] [] := by
    intro G1 l1 l2 hK hO1 hI1 hP1 hg
    have hst1 := hI1.1
    have hll := hI1.2.2.2.1
    have hso : soL S (ngA w) = soL S w := soL_c a12 (fun k k0 k1 => ab _ (by omega) (by omega))
    rw [hso] at hll
    obtain ⟨fl, hlc⟩ := hll.c
    first | refine y_ald_n E dX2_night_71 (by rfl) ?_ | refine y_aload_n E dX2_night_71 (by rfl) ?_
    refine y_get E dX2_night_72 fl_X2_24_X2 (hst1) (by rfl) ?_
    refine y_callU E dX2_night_75 lk_X2_74_J4 (c_li_new hll (by simp; omega)) (by rfl) (hlc) rfl (by decide) (by omega) (by omega) rfl (Nat.le_of_ble_eq_true rfl) ?_ (fun _ _ _ h => h.elim)
    rintro _ G2 ⟨it, vv, rfl, h0, hit, hG9⟩
    first | refine y_ast_n (j := 1) E dX2_night_78 rfl (Nat.le_of_ble_eq_true rfl) ?_ | refine y_astore_n (j := 1) E dX2_night_78 rfl (Nat.le_of_ble_eq_true rfl) ?_ | refine y_astore_n (j := 1) (r := none) E dX2_night_78 rfl (Nat.le_of_ble_eq_true rfl) ?_
    exact L2 it (hg it h0) 0 G2 (ngA w) _ (itI_0 _ _).symm (by rw [hG9]; exact gK_fr hK (hg it h0) _) (by rw [hG9]; exact gOK_it hO1) hit (hI1.e (hB.kk hK) (by rw [hG9]; exact gExt_n h0)) hP1 (by omega)
  have L1 : ∀ it, G it = none → ∀ i : Nat, ∀ (G1 : yH) (x : Int → Int) (l2 : Option Value), x = itI ng1 i (upI w 0 (w 0 + 1)) → gK (fun τ => τ = (st, 0) ∨ τ = (st, 5) ∨ τ = (st, 6)) G G1 → gOK G1 → isIT Γ G1 it (sTl S) (st, 1) (twL S w) i → isST Γ G1 st a S x → PF x → (∀ q, G1 q = none → G q = none) → (i : Int) ≤ w 10 → Y Γ Z 1 4 Q G1 18 [some (.ref a), some (.ref it), l2] [] := by
    intro it h0
    refine loopDownN (w 10).toNat ?_
    intro i ih G1 x l2 hxe hK hO1 hit hI1 hPx hg hi
    obtain ⟨hx, hxk⟩ := ngA_ok hS hT i (by omega) (by omega)
    rw [← hxe] at hx hxk
    obtain ⟨fs, hitc⟩ := hit.c
    have x10 : x 10 = w 10 := hxk _ (by omega) (by omega)
    have x11 : x 11 = w 11 := hxk _ (by omega) (by omega)
    have hxL : LSW x := LSW_c x10 x11 (fun t t0 t1 => hxk _ (by omega) (by omega)) hL
    have hl11 := hx.nl
    have hT' : (i : Int) < w 10 → tw x i 4 = 1 → 0 ≤ tw x i 3 := fun h => by
      unfold tw
      rw [hxk _ (by omega) (by omega), hxk _ (by omega) (by omega)]
      exact hT i (by omega) h
    first | refine y_ald_n E dX2_night_18 (by rfl) ?_ | refine y_aload_n E dX2_night_18 (by rfl) ?_
    refine y_callF E dX2_night_19 lk_X2_37_J24 (c_it_has hit (by omega)) (by rfl) (hitc) rfl (by decide) (by omega) (by omega) rfl (Nat.le_of_ble_eq_true rfl) ?_ (fun _ _ _ h => h.elim)
    rintro _ _ ⟨rfl, hG9⟩
    rw [hG9]
    clear hG9
    refine y_ifd_eq (tgt := 71) E dX2_night_24 (by decide) (fun h24 => ?_) (fun h24 => ?_)
    · have hxA : x = ngA w := by rw [hxe, show (i : Int) = w 10 by omega]; rfl
      rw [hxA] at hI1 hPx
      exact P71 G1 _ _ hK hO1 hI1 hPx hg
    · first | refine y_ald_n E dX2_night_27 (by rfl) ?_ | refine y_aload_n E dX2_night_27 (by rfl) ?_
      refine y_callF E dX2_night_28 lk_X2_43_J24 (c_it_next hit (twL_at (by omega))) (by rfl) (hitc) rfl (by decide) (by omega) (by omega) rfl (Nat.le_of_ble_eq_true rfl) ?_ (fun _ _ _ h => h.elim)
      rintro _ G2 ⟨rfl, hit2, vv, hG9⟩
      have hSi := hx.t (t := (i : Int)) (by omega) (by omega)
      have hpw := hx.pow (t := (i : Int)) (by omega) (by omega)
      have hfg := hx.fog (k := tw x i 0 / 10) (by omega) (by omega)
      have hk2 : gK (· = yT0) G1 G2 := by rw [hG9]; exact gK_w _ hitc rfl
      have hK2 : gK (fun τ => τ = (st, 0) ∨ τ = (st, 5) ∨ τ = (st, 6)) G G2 := by rw [hG9]; exact gK_fr hK h0 _
      have hO2 : gOK G2 := by rw [hG9]; exact gOK_it hO1
      have hB1 : gB Γ G1 := hB.kk hK
      have hI2 := hI1.kk hB1 hk2 (fun j q => by cases q; omega)
      have hB2 := hB.kk hK2
      have hst2 := hI2.1
      have hg2 : ∀ q, G2 q = none → G q = none := fun q hq => hg q (by rw [hG9] at hq; exact gs_0 hq)
      have hiw := isST_t hI2 (t := i) (by omega)
      rw [twX_F] at hiw
      refine y_ccast E dX2_night_33 q1008 (hiw) rfl (Or.inl rfl) ?_
      first | refine y_ast_n (j := 2) E dX2_night_36 rfl (Nat.le_of_ble_eq_true rfl) ?_ | refine y_astore_n (j := 2) E dX2_night_36 rfl (Nat.le_of_ble_eq_true rfl) ?_ | refine y_astore_n (j := 2) (r := none) E dX2_night_36 rfl (Nat.le_of_ble_eq_true rfl) ?_
      first | refine y_ald_n E dX2_night_37 (by rfl) ?_ | refine y_aload_n E dX2_night_37 (by rfl) ?_
      refine y_getN E dX2_night_38 fl_X2_133_X6 (hiw) (by rfl) ?_
      refine y_if_eq (tgt := 68) E dX2_night_41 (by decide) (by omega) (fun h41 => ?_) (fun h41 => ?_)
      · refine y_goto (tgt := 18) E dX2_night_68 (by decide) ?_
        have hT'' := hT' (by omega)
        first
          | exact ih (by omega) _ (ng1 i x) _ (by rw [show ((i + 1 : Nat) : Int) = (i : Int) + 1 by omega, itI_s (by omega), ← hxe]) hK3 hO3 hit3 hI3 (ng1_PF hx (by omega) (by omega) hT'' hPx) hg3 (by omega)
          | exact ih (by omega) _ x _ (by rw [show ((i + 1 : Nat) : Int) = (i : Int) + 1 by omega, itI_s (by omega), ← hxe]; unfold ng1; rw [if_neg (by omega)]) hK2 hO2 hit2 hI2 hPx hg2 (by omega)
      · have h3 := hT' (by omega) (by omega)
        unfold twF at hiw
        rw [lnO_s h3] at hiw
        have hln := isST_tl hI2 hxL (t := i) (by omega) h3
        have hpl := hx.l (l := tw x i 3) h3 (by omega)
        have hlb := lessS_b x i
        have hpe : powS x i = lw x (tw x i 3) 0 := by unfold powS; rw [if_neg (by omega)]
        first | refine y_ald_n E dX2_night_44 (by rfl) ?_ | refine y_aload_n E dX2_night_44 (by rfl) ?_
        refine y_getN E dX2_night_45 fl_X2_62_X6 (hiw) (by rfl) ?_
        first | refine y_ald_n E dX2_night_48 (by rfl) ?_ | refine y_aload_n E dX2_night_48 (by rfl) ?_
        first | refine y_ald_n E dX2_night_49 (by rfl) ?_ | refine y_aload_n E dX2_night_49 (by rfl) ?_
        refine y_getN E dX2_night_50 fl_X2_89_X6 (hiw) (by rfl) ?_
        refine y_callV E dX2_night_53 lk_X2_148 (c_X2_fogAt hI2 (p := tw x i 0) (by omega)) (by rfl) (hst2) rfl (by decide) (by omega) (by omega) rfl (Nat.le_of_ble_eq_true rfl) ?_ (fun _ _ _ h => h.elim)
        rintro _ _ ⟨rfl, hG9⟩
        rw [hG9]
        clear hG9
        refine y_iconst E dX2_night_56 ?_
        refine y_icmp_lt (tgt := 64) E dX2_night_57 (by decide) (by omega) (by omega) (fun h57 => ?_) (fun h57 => ?_)
        · refine y_iconst E dX2_night_64 ?_
          first
            | rw [show (2 : Int) = lessS x i from by unfold lessS; rw [if_pos (by omega)]]
            | rw [show (1 : Int) = lessS x i from by unfold lessS; rw [if_neg (by omega)]]
          refine y_callV E dX2_night_65 lk_X2_151 (c_X5_wear (b := lessS x i) hln (by omega) (by omega)) (by rfl) (hln) rfl (by decide) (by omega) (by omega) rfl (Nat.le_of_ble_eq_true rfl) ?_ (fun _ _ _ h => h.elim)
          rintro _ _ ⟨rfl, hG9⟩
          rw [hG9]
          clear hG9
          refine y_heap (show _ = gset G2 (sLa S (tw x i 3).toNat) (some (st, 6), lnX (ng1 i x) (tw x i 3).toNat) from by rw [lnX_ng (by omega) h3 rfl]) ?_
          have hlt := hxL i (by omega) (by omega)
          have e4 : tw x i 4 = 1 := by omega
          obtain ⟨hI3, hk3, -⟩ := isST_lset hB2 hI2 hx (l := (tw x i 3).toNat) (by omega) (v := ng1 i x) (fun k hk => by unfold ng1; rw [if_pos e4, upI_n _ (by omega)])
          have hK3 := gK_t hK2 (gK_m hk3 (fun τ q => Or.inr (Or.inr q)))
          have hO3 := gOK_t (j := 6) (a := sLa S (tw x i 3).toNat) (e := lnX (ng1 i x) (tw x i 3).toNat) hO2 hs0
          have hit3 := hit2.kk hk3 (fun q => by cases q) (fun q => by cases q)
          have hg3 : ∀ q, gset G2 (sLa S (tw x i 3).toNat) (some (st, 6), lnX (ng1 i x) (tw x i 3).toNat) q = none → G q = none := fun q hq => hg2 q (gs_0 hq)
          refine y_goto (tgt := 18) E dX2_night_68 (by decide) ?_
          have hT'' := hT' (by omega)
          first
            | exact ih (by omega) _ (ng1 i x) _ (by rw [show ((i + 1 : Nat) : Int) = (i : Int) + 1 by omega, itI_s (by omega), ← hxe]) hK3 hO3 hit3 hI3 (ng1_PF hx (by omega) (by omega) hT'' hPx) hg3 (by omega)
            | exact ih (by omega) _ x _ (by rw [show ((i + 1 : Nat) : Int) = (i : Int) + 1 by omega, itI_s (by omega), ← hxe]; unfold ng1; rw [if_neg (by omega)]) hK2 hO2 hit2 hI2 hPx hg2 (by omega)
        · refine y_iconst E dX2_night_60 ?_
          refine y_goto (tgt := 65) E dX2_night_61 (by decide) ?_
          first
            | rw [show (2 : Int) = lessS x i from by unfold lessS; rw [if_pos (by omega)]]
            | rw [show (1 : Int) = lessS x i from by unfold lessS; rw [if_neg (by omega)]]
          refine y_callV E dX2_night_65 lk_X2_151 (c_X5_wear (b := lessS x i) hln (by omega) (by omega)) (by rfl) (hln) rfl (by decide) (by omega) (by omega) rfl (Nat.le_of_ble_eq_true rfl) ?_ (fun _ _ _ h => h.elim)
          rintro _ _ ⟨rfl, hG9⟩
          rw [hG9]
          clear hG9
          refine y_heap (show _ = gset G2 (sLa S (tw x i 3).toNat) (some (st, 6), lnX (ng1 i x) (tw x i 3).toNat) from by rw [lnX_ng (by omega) h3 rfl]) ?_
          have hlt := hxL i (by omega) (by omega)
          have e4 : tw x i 4 = 1 := by omega
          obtain ⟨hI3, hk3, -⟩ := isST_lset hB2 hI2 hx (l := (tw x i 3).toNat) (by omega) (v := ng1 i x) (fun k hk => by unfold ng1; rw [if_pos e4, upI_n _ (by omega)])
          have hK3 := gK_t hK2 (gK_m hk3 (fun τ q => Or.inr (Or.inr q)))
          have hO3 := gOK_t (j := 6) (a := sLa S (tw x i 3).toNat) (e := lnX (ng1 i x) (tw x i 3).toNat) hO2 hs0
          have hit3 := hit2.kk hk3 (fun q => by cases q) (fun q => by cases q)
          have hg3 : ∀ q, gset G2 (sLa S (tw x i 3).toNat) (some (st, 6), lnX (ng1 i x) (tw x i 3).toNat) q = none → G q = none := fun q hq => hg2 q (gs_0 hq)
          refine y_goto (tgt := 18) E dX2_night_68 (by decide) ?_
          have hT'' := hT' (by omega)
          first
            | exact ih (by omega) _ (ng1 i x) _ (by rw [show ((i + 1 : Nat) : Int) = (i : Int) + 1 by omega, itI_s (by omega), ← hxe]) hK3 hO3 hit3 hI3 (ng1_PF hx (by omega) (by omega) hT'' hPx) hg3 (by omega)
            | exact ih (by omega) _ x _ (by rw [show ((i + 1 : Nat) : Int) = (i : Int) + 1 by omega, itI_s (by omega), ← hxe]; unfold ng1; rw [if_neg (by omega)]) hK2 hO2 hit2 hI2 hPx hg2 (by omega)
  have hagv : ag (upI w 0 (w 0 + 1)) w := ag_up (by omega)
  obtain ⟨hI1, hk1, -⟩ := isST_cset hB hI hS (v := upI w 0 (w 0 + 1)) hagv
  have hK1 : gK (fun τ => τ = (st, 0) ∨ τ = (st, 5) ∨ τ = (st, 6)) G (gset G a (some (st, 0), stE S (upI w 0 (w 0 + 1)))) := gK_m hk1 (fun τ q => Or.inl q)
  have hB1 := hB.kk hk1
  have hst1 := hI1.1
  have hal := hI1.2.1
  rw [show twL S (upI w 0 (w 0 + 1)) = twL S w from rfl] at hal
  obtain ⟨fal, hac⟩ := hal.c
  have hO1 := gOK_t (j := 0) (a := a) (e := stE S (upI w 0 (w 0 + 1))) hO hs0
  have hP1 : PF (upI w 0 (w 0 + 1)) := fun l l0 l1 => by
    rw [upI_n _ (by omega)] at l1
    unfold lw
    rw [upI_n _ (by omega), upI_n _ (by omega)]
    exact hP l l0 l1
  first | refine y_ald_n E dX2_night_0 (by rfl) ?_ | refine y_aload_n E dX2_night_0 (by rfl) ?_
  refine y_dup E dX2_night_1 rfl ?_
  refine y_get E dX2_night_2 fl_X2_76_X2 (hst) (by rfl) ?_
  refine y_iconst E dX2_night_5 ?_
  refine y_iadd E dX2_night_6 ?_
  refine y_put E dX2_night_7 fl_X2_76_X2 fw_X2_4 rfl (by rfl) (hst) (Nat.le_of_ble_eq_true rfl) ?_
  refine y_heap (show _ = gset G a (some (st, 0), stE S (upI w 0 (w 0 + 1))) from by unfold stE; rw [upI_s, upI_n _ (by omega), upI_n _ (by omega)]; rfl) ?_
  have hst := hst1
  first | refine y_ald_n E dX2_night_10 (by rfl) ?_ | refine y_aload_n E dX2_night_10 (by rfl) ?_
  refine y_get E dX2_night_11 fl_X2_12_X2 (hst) (by rfl) ?_
  refine y_callV E dX2_night_14 lk_X2_33 (c_it_new hB1 hal) (by rfl) (hac) rfl (by decide) (by omega) (by omega) rfl (Nat.le_of_ble_eq_true rfl) ?_ (fun _ _ _ h => h.elim)
  rintro _ G2 ⟨it, vv, rfl, h0, hit, hG9⟩
  first | refine y_ast_n (j := 1) E dX2_night_17 rfl (Nat.le_of_ble_eq_true rfl) ?_ | refine y_astore_n (j := 1) E dX2_night_17 rfl (Nat.le_of_ble_eq_true rfl) ?_ | refine y_astore_n (j := 1) (r := none) E dX2_night_17 rfl (Nat.le_of_ble_eq_true rfl) ?_
  have hg0 : ∀ q, gset G a (some (st, 0), stE S (upI w 0 (w 0 + 1))) q = none → G q = none := fun q hq => gs_0 hq
  exact L1 it (hg0 it h0) 0 G2 _ _ (itI_0 _ _).symm (by rw [hG9]; exact gK_fr hK1 (hg0 it h0) _) (by rw [hG9]; exact gOK_it hO1) hit (hI1.e hB1 (by rw [hG9]; exact gExt_n h0)) hP1 (fun q hq => hg0 q (by rw [hG9] at hq; exact gs_0 hq)) (by omega)
end Ng
