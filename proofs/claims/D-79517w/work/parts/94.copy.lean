/-! ===== State.copy ===== -/
section Cp
variable {Γ : yG} {G : yH} {st a : Nat} {S : SA} {w : Int → Int}
/-- a row of which so much is copied -/
def cpR (w : Int → Int) (j i k : Int) : Int → Int := fun q => if q < 10 then 0 else if q = 10 then j else if q = 11 then i else if q = 12 then k else w q
theorem cpR_lo {j i k q : Int} (h : q < 10) : cpR w j i k q = 0 := if_pos h
theorem cpR_10 {j i k : Int} : cpR w j i k 10 = j := by unfold cpR; rw [if_neg (by omega), if_pos rfl]
theorem cpR_11 {j i k : Int} : cpR w j i k 11 = i := by unfold cpR; rw [if_neg (by omega), if_neg (by omega), if_pos rfl]
theorem cpR_12 {j i k : Int} : cpR w j i k 12 = k := by unfold cpR; rw [if_neg (by omega), if_neg (by omega), if_neg (by omega), if_pos rfl]
theorem cpR_hi {j i k q : Int} (h : 13 ≤ q) : cpR w j i k q = w q := by unfold cpR; rw [if_neg (by omega), if_neg (by omega), if_neg (by omega), if_neg (by omega)]
theorem cpR_11n {j i k i' q : Int} (h : q ≠ 11) : cpR w j i k q = cpR w j i' k q := by
  unfold cpR
  split
  · rfl
  · split
    · rfl
    · first
      | rfl
      | (rw [if_neg h, if_neg h]; done)
theorem cpR_10n {j i k j' q : Int} (h : q ≠ 10) : cpR w j i k q = cpR w j' i k q := by
  unfold cpR
  split
  · rfl
  · first
    | rfl
    | (rw [if_neg h, if_neg h]; done)
theorem isST_z (h : isST Γ G st a S (fun _ => 0)) : isST Γ G st a S (cpR w 0 0 0) := by
  obtain ⟨h1, h2, h3, h4, h5, h6, h7⟩ := h
  refine ⟨?_, ?_, ?_, ?_, ?_, fun u hu => ?_, fun m hm => ?_⟩
  · unfold stE
    rw [cpR_lo (by omega), cpR_lo (by omega), cpR_lo (by omega)]
    exact h1
  · have : twL S (cpR w 0 0 0) = twL S (fun _ => 0) := by unfold twL; rw [cpR_10]
    rw [this]
    exact h2
  · have : lnL S (cpR w 0 0 0) = lnL S (fun _ => 0) := by unfold lnL; rw [cpR_11]
    rw [this]
    exact h3
  · have : soL S (cpR w 0 0 0) = soL S (fun _ => 0) := soL_c cpR_12 (fun k k0 k1 => by omega)
    rw [this]
    exact h4
  · rw [fgF_c (w := fun _ => 0) (fun k k0 k1 => cpR_lo (by omega))]
    exact h5
  · rw [cpR_10] at hu
    omega
  · rw [cpR_11] at hm
    omega
theorem okR_l {q : Nat} {t : yT} {fs : List Value} (h : G q = some (t, .inr (1, fs))) : okR G "java/lang/Object" (some q) := fun v e => by cases e; exact ⟨_, 1, _, _, h, rfl, Or.inr q3111⟩
theorem okR_t {q : Nat} {t : yT} {fs : List Value} (h : G q = some (t, .inr (2, fs))) : okR G "java/lang/Object" (some q) := fun v e => by cases e; exact ⟨_, 2, _, _, h, rfl, Or.inr q3112⟩
theorem isST_okL (h : isST Γ G st a S w) : ∀ y, y ∈ lnL S w → okR G "java/lang/Object" (some y) := fun y hy => by
  unfold lnL at hy
  rw [List.mem_map] at hy
  obtain ⟨l, hl, rfl⟩ := hy
  rw [List.mem_range] at hl
  have := isST_l h (l := l) (by omega)
  unfold lnX at this
  intro v e
  cases e
  exact ⟨_, 1, _, _, this, rfl, Or.inr q3111⟩
theorem isST_okT (h : isST Γ G st a S w) : ∀ y, y ∈ twL S w → okR G "java/lang/Object" (some y) := fun y hy => by
  unfold twL at hy
  rw [List.mem_map] at hy
  obtain ⟨l, hl, rfl⟩ := hy
  rw [List.mem_range] at hl
  exact okR_t (isST_t h (t := l) (by omega))
def fgR (w : Int → Int) (i : Int) : Int → Int := fun q => if 3 ≤ q ∧ q < 3 + i then w q else cpR w (w 10) (w 11) (w 12) q
theorem fgR_0 : fgR w 0 = cpR w (w 10) (w 11) (w 12) := by
  funext q
  unfold fgR
  rw [if_neg (by omega)]
theorem fgR_n {i q : Int} (h : q < 3 ∨ 10 ≤ q) (hi : i ≤ 7) : fgR w i q = cpR w (w 10) (w 11) (w 12) q := by
  unfold fgR
  rw [if_neg (by omega)]
theorem fgR_s {i : Int} (h0 : 0 ≤ i) (h7 : i < 7) : upI (fgF (fgR w i)) i (w (3 + i)) = fgF (fgR w (i + 1)) := by
  funext q
  unfold upI fgF fgR
  by_cases e : q = i
  · subst e
    rw [if_pos rfl, if_pos (by omega), if_pos (by omega)]
  · rw [if_neg e]
    by_cases e2 : 0 ≤ q ∧ q < 7
    · rw [if_pos e2, if_pos e2]
      by_cases e3 : q < i
      · rw [if_pos (by omega), if_pos (by omega)]
      · rw [if_neg (by omega), if_neg (by omega)]
    · rw [if_neg e2, if_neg e2]
theorem fgR_7 {q : Int} (h : 3 ≤ q) : fgR w 7 q = w q := by
  unfold fgR
  by_cases e : q < 10
  · rw [if_pos (by omega)]
  · rw [if_neg (by omega)]
    by_cases e0 : q = 10
    · rw [e0, cpR_10]
    · by_cases e1 : q = 11
      · rw [e1, cpR_11]
      · by_cases e2 : q = 12
        · rw [e2, cpR_12]
        · exact cpR_hi (by omega)
set_option maxHeartbeats 4000000
theorem c_X2_copy {st' : Nat} (hs0 : 0 < st') (hs1 : 0 < st) (hne : st' ≠ st) (hB : gB Γ G) (hO : gOK G) (hI : isST Γ G st a S w) (hS : SH w) (hL : LSW w) (hW : SW w) : Ct_X2_copy Γ 9 60 493 [.ref a] (G) (fun v G' => (∃ b S', v = some (.ref b) ∧ isST Γ G' st' b S' w) ∧ gK (fun τ => τ.1 = st' ∨ τ = yT0) G G' ∧ gOK G') (noX) := by
  refine y_start (lv0 := [some (.ref a), none, none, none, none]) (nm := "copy") (own := RX2) (by decide +kernel) rfl rfl (by exact Nat.le_of_ble_eq_true rfl) (by rfl) ?_
  intro Z Q E F
  have hst := hI.1
  have hn := hS.nt
  have hnl := hS.nl
  have hns := hS.ns
  have hlen := twL_len S w
  have hlel := lnL_len S w
  have hles := soL_len S w
  have hP : ∀ j, ¬ ((st, j).1 = st' ∨ (st, j) = yT0) := fun j q => by
    rcases q with q | q
    · exact hne q.symm
    · cases q
      omega
  have F207 : ∀ (b : Nat) (S1 : SA) (G1 : yH) (i : Int) (l3 l4 : Option Value), gK (fun τ => τ.1 = st' ∨ τ = yT0) G G1 → gOK G1 → isST Γ G1 st' b S1 (fgR w 7) → Y Γ Z 60 493 Q G1 207 [some (.ref a), some (.ref b), some (.int (iI i)), l3, l4] [] := by
    intro b S1 G1 i l3 l4 hK hO1 hN
    have hB1 := hB.kk hK
    have hI1 := hI.kk hB hK hP
    have hst1 := hI1.1
    have hb := hN.1
    have hab : a ≠ b := g_ne hst1 hb (by
      intro e
      have e2 := congrArg Prod.fst e
      cases e2
      exact hne rfl)
    have hag : ag w (fgR w 7) := fun k hk => (fgR_7 hk).symm
    obtain ⟨hN3, hk3, -⟩ := isST_cset hB1 hN (ag_SH hag hS) (v := w) hag
    have hst2 : ∀ v, gset G1 b v a = some (some (st, 0), stE S w) := fun v => gs_n hab hst1
    first | refine y_ald_n E dX2_copy_207 (by rfl) ?_ | refine y_aload_n E dX2_copy_207 (by rfl) ?_
    first | refine y_ald_n E dX2_copy_208 (by rfl) ?_ | refine y_aload_n E dX2_copy_208 (by rfl) ?_
    refine y_get E dX2_copy_209 fl_X2_76_X2 (hst1) (by rfl) ?_
    refine y_put E dX2_copy_212 fl_X2_76_X2 fw_X2_4 rfl (by rfl) (hb) (Nat.le_of_ble_eq_true rfl) ?_
    refine y_heap (show _ = gset G1 b (some (st', 0), stE S1 (upI (fgR w 7) 0 (w 0))) from rfl) ?_
    have hst1 := hst2 (some (st', 0), stE S1 (upI (fgR w 7) 0 (w 0)))
    have hb := gset_s G1 b (some (st', 0), stE S1 (upI (fgR w 7) 0 (w 0)))
    first | refine y_ald_n E dX2_copy_215 (by rfl) ?_ | refine y_aload_n E dX2_copy_215 (by rfl) ?_
    first | refine y_ald_n E dX2_copy_216 (by rfl) ?_ | refine y_aload_n E dX2_copy_216 (by rfl) ?_
    refine y_get E dX2_copy_217 fl_X2_79_X2 (hst1) (by rfl) ?_
    refine y_put E dX2_copy_220 fl_X2_79_X2 fw_X2_5 rfl (by rfl) (hb) (Nat.le_of_ble_eq_true rfl) ?_
    refine y_heap (gset_gset _ _ _ _) ?_
    refine y_heap (show _ = gset G1 b (some (st', 0), stE S1 (upI (upI (fgR w 7) 0 (w 0)) 1 (w 1))) from rfl) ?_
    have hst1 := hst2 (some (st', 0), stE S1 (upI (upI (fgR w 7) 0 (w 0)) 1 (w 1)))
    have hb := gset_s G1 b (some (st', 0), stE S1 (upI (upI (fgR w 7) 0 (w 0)) 1 (w 1)))
    first | refine y_ald_n E dX2_copy_223 (by rfl) ?_ | refine y_aload_n E dX2_copy_223 (by rfl) ?_
    first | refine y_ald_n E dX2_copy_224 (by rfl) ?_ | refine y_aload_n E dX2_copy_224 (by rfl) ?_
    refine y_get E dX2_copy_225 fl_X2_82_X2 (hst1) (by rfl) ?_
    refine y_put E dX2_copy_228 fl_X2_82_X2 fw_X2_6 rfl (by rfl) (hb) (Nat.le_of_ble_eq_true rfl) ?_
    refine y_heap (gset_gset _ _ _ _) ?_
    refine y_heap (show _ = gset G1 b (some (st', 0), stE S1 w) from rfl) ?_
    first | refine y_ald_n E dX2_copy_231 (by rfl) ?_ | refine y_aload_n E dX2_copy_231 (by rfl) ?_
    refine y_areturn (r := some _) E F rfl (Or.inl ⟨_, rfl⟩) dX2_copy_232 (by omega) (by omega) ⟨⟨b, S1, rfl, hN3⟩, gK_t hK (gK_m hk3 (fun τ q => Or.inl (by rw [q]))), gOK_t hO1 hs0⟩
  have L4 : ∀ (b : Nat) (S1 : SA) (l3 l4 : Option Value) (i : Int) (G1 : yH), 0 ≤ i → i ≤ 7 → gK (fun τ => τ.1 = st' ∨ τ = yT0) G G1 → gOK G1 → isST Γ G1 st' b S1 (fgR w i) → Y Γ Z 60 493 Q G1 183 [some (.ref a), some (.ref b), some (.int (iI i)), l3, l4] [] := by
    intro b S1 l3 l4
    refine loopDown 7 ?_
    intro i ih G1 h0 h1 hK hO1 hN
    have hB1 := hB.kk hK
    have hI1 := hI.kk hB hK hP
    have hst1 := hI1.1
    have hb := hN.1
    have hfa := hI1.2.2.2.2.1
    have hfb := hN.2.2.2.2.1
    have e10 : fgR w i 10 = w 10 := (fgR_n (by omega) (by omega)).trans cpR_10
    refine y_iload_n E dX2_copy_183 (by rfl) ?_
    refine y_bipush E dX2_copy_184 (by decide) ?_
    refine y_icmp_ge (tgt := 207) E dX2_copy_186 (by decide) (by omega) (by omega) (fun h186 => ?_) (fun h186 => ?_)
    · exact F207 b S1 G1 _ _ _ hK hO1 (by rw [show (7 : Int) = i by omega]; exact hN)
    · first | refine y_ald_n E dX2_copy_189 (by rfl) ?_ | refine y_aload_n E dX2_copy_189 (by rfl) ?_
      refine y_get E dX2_copy_190 fl_X2_28_X2 (hb) (by rfl) ?_
      refine y_iload_n E dX2_copy_193 (by rfl) ?_
      first | refine y_ald_n E dX2_copy_194 (by rfl) ?_ | refine y_aload_n E dX2_copy_194 (by rfl) ?_
      refine y_get E dX2_copy_195 fl_X2_28_X2 (hst1) (by rfl) ?_
      refine y_iload_n E dX2_copy_198 (by rfl) ?_
      refine y_iald E dX2_copy_199 (hfa) (by omega) ?_
      rw [fgF_at (w := w) (by omega)]
      refine y_iast E dX2_copy_200 (hfb) (by omega) ?_
      obtain ⟨hN3, hk3⟩ := isST_fset hB1 hN (v := fgR w (i + 1)) (fgR_s (by omega) (by omega)) (by omega) (fun k hk => by rw [fgR_n (by omega) (by omega), fgR_n (by omega) (by omega)])
      refine y_iinc E dX2_copy_201 (by rfl) ?_
      refine y_goto (tgt := 183) E dX2_copy_204 (by decide) ?_
      exact ih (by omega) _ (by omega) (by omega) (gK_t hK (gK_m hk3 (fun τ q => Or.inl (by rw [q])))) (gOK_t hO1 hs0) hN3
  have L3 : ∀ (b it : Nat) (S1 : SA) (l4 : Option Value) (i : Nat), ∀ (G1 : yH) (l3 : Option Value), gK (fun τ => τ.1 = st' ∨ τ = yT0) G G1 → gOK G1 → isLI G1 it (sSl S) (st, 3) ((soL S w).map some) i → isST Γ G1 st' b S1 (cpR w (w 10) (w 11) i) → (i : Int) ≤ w 12 → Y Γ Z (48 + i) (457 + 3 * i) Q G1 137 [some (.ref a), some (.ref b), some (.ref it), l3, l4] [] := by
    intro b it S1 l4
    refine loopDownN (w 12).toNat ?_
    intro i ih G1 l3 hK hO1 hit hN hi
    have hB1 := hB.kk hK
    obtain ⟨fs, hitc⟩ := hit.c
    first | refine y_ald_n E dX2_copy_137 (by rfl) ?_ | refine y_aload_n E dX2_copy_137 (by rfl) ?_
    refine y_callF E dX2_copy_138 lk_X2_37_J35 (c_li_hasS hit (by omega) (by omega)) (by rfl) (hitc) rfl (by decide) (by omega) (by omega) rfl (Nat.le_of_ble_eq_true rfl) ?_ (fun _ _ _ h => h.elim)
    rintro _ _ ⟨rfl, hG9⟩
    rw [hG9]
    clear hG9
    refine y_ifd_eq (tgt := 181) E dX2_copy_143 (by decide) (fun h143 => ?_) (fun h143 => ?_)
    · refine y_iconst E dX2_copy_181 ?_
      refine y_istore_n (j := 2) E dX2_copy_182 rfl (Nat.le_of_ble_eq_true rfl) ?_
      exact y_widen (by omega) (by omega) (L4 b S1 _ _ 0 G1 (by omega) (by omega) hK hO1 (by rw [fgR_0, show w 12 = (i : Int) by omega]; exact hN))
    · first | refine y_ald_n E dX2_copy_146 (by rfl) ?_ | refine y_aload_n E dX2_copy_146 (by rfl) ?_
      refine y_callF E dX2_copy_147 lk_X2_43_J35 (c_li_nextS hit (by simp [yT0]) (soL_at (by omega)) (by omega)) (by rfl) (hitc) rfl (by decide) (by omega) (by omega) rfl (Nat.le_of_ble_eq_true rfl) ?_ (fun _ _ _ h => h.elim)
      rintro _ G2 ⟨rfl, hit2, vv, hG9⟩
      have hwi := hW i (by omega) (by omega)
      have hwn := hS.sto (k := (i : Int)) (by omega) (by omega)
      have hk2 : gK (· = yT0) G1 G2 := by rw [hG9]; exact gK_w _ hitc rfl
      have hK2 := gK_t hK (gK_m hk2 (fun τ q => Or.inr q))
      have hO2 : gOK G2 := by rw [hG9]; exact gOK_it hO1
      have hB2 := hB.kk hK2
      have hI2 := hI.kk hB hK2 hP
      have hN2 := hN.kk hB1 hk2 (fun j q => by cases q; omega)
      have hb := hN2.1
      have hll := hN2.2.2.2.1
      obtain ⟨fl, hllc⟩ := hll.c
      have hal := hN2.2.2.1
      obtain ⟨fa, halc⟩ := hal.c
      have hlc := isST_l hI2 (l := (w (13 + (i : Int))).toNat) (by omega)
      unfold lnX at hlc
      have hlx := isST_l hN2 (l := (w (13 + (i : Int))).toNat) (by rw [cpR_11]; omega)
      unfold lnX at hlx
      refine y_ccast E dX2_copy_152 q949 (hlc) rfl (Or.inl rfl) ?_
      first | refine y_ast_n (j := 3) E dX2_copy_155 rfl (Nat.le_of_ble_eq_true rfl) ?_ | refine y_astore_n (j := 3) E dX2_copy_155 rfl (Nat.le_of_ble_eq_true rfl) ?_ | refine y_astore_n (j := 3) (r := none) E dX2_copy_155 rfl (Nat.le_of_ble_eq_true rfl) ?_
      first | refine y_ald_n E dX2_copy_156 (by rfl) ?_ | refine y_aload_n E dX2_copy_156 (by rfl) ?_
      refine y_get E dX2_copy_157 fl_X2_24_X2 (hb) (by rfl) ?_
      first | refine y_ald_n E dX2_copy_160 (by rfl) ?_ | refine y_aload_n E dX2_copy_160 (by rfl) ?_
      refine y_get E dX2_copy_161 fl_X2_18_X2 (hb) (by rfl) ?_
      first | refine y_ald_n E dX2_copy_164 (by rfl) ?_ | refine y_aload_n E dX2_copy_164 (by rfl) ?_
      refine y_getN E dX2_copy_165 fl_X2_66_X5 (hlc) (by rfl) ?_
      refine y_callV E dX2_copy_168 lk_X2_70 (c_J2_get (i := (((w (13 + (i : Int))).toNat : Nat) : Int)) hal (by rw [lnL_len, cpR_11]; omega)) (by rfl) (halc) rfl (by decide) (by omega) (by omega) rfl (Nat.le_of_ble_eq_true rfl) ?_ (fun _ _ _ h => h.elim)
      rintro _ _ ⟨⟨x, hx, rfl⟩, rfl⟩
      rw [Int.toNat_natCast, lnL_at (by rw [cpR_11]; omega)] at hx
      cases hx
      refine y_ccast E dX2_copy_171 q949 (hlx) rfl (Or.inl rfl) ?_
      refine y_callV E dX2_copy_174 lk_X2_75 (c_J4_add (x := some (sLa S1 (w (13 + (i : Int))).toNat)) hll) (by rfl) (hllc) rfl (by decide) (by omega) (by omega) rfl (Nat.le_of_ble_eq_true rfl) ?_ (fun _ _ _ h => h.elim)
      rintro _ G3' ⟨rfl, hll1, hk1'⟩
      obtain ⟨G3, he1, hk3, hk4, hO3⟩ := rs_all hk1' hO2 ⟨fun q => (by cases q), fun q => (by cases q)⟩
      refine y_forget he1 ?_
      have hll1 := hll1.kk hk4 (by simp)
      have hit3 := hit2.kk hk3 (fun q => by cases q) (fun q => by cases q; omega)
      have hK3 := gK_t hK2 (gK_m hk3 (fun τ q => Or.inl (by rw [q])))
      refine y_pop E dX2_copy_177 rfl ?_
      refine y_goto (tgt := 137) E dX2_copy_178 (by decide) ?_
      refine y_widen (by omega) (by omega) (ih (by omega) G3 _ hK3 hO3 hit3 (isST_sset hB2 hN2 hk3 ?_ (fun k hk => ?_) (by rw [cpR_10]; omega) (fun l hl => lnX_c (fun j j0 j1 => ?_))) (by omega))
      · have e : soL S1 (cpR w (w 10) (w 11) ((i + 1 : Nat) : Int)) = soL S1 (cpR w (w 10) (w 11) i) ++ [sLa S1 (w (13 + (i : Int))).toNat] := by
          unfold soL
          rw [cpR_12, cpR_12, show (((i + 1 : Nat) : Int)).toNat = (i : Int).toNat + 1 by omega, List.range_succ, List.map_append]
          congr 1
          · apply List.map_congr_left
            intro k hk
            rw [cpR_hi (by omega), cpR_hi (by omega)]
          · rw [List.map_singleton, cpR_hi (by omega), show (((i : Int).toNat : Nat) : Int) = i by omega]
        rw [e, List.map_append]
        exact hll1
      · unfold cpR
        by_cases e : k = 12
        · omega
        · rw [if_neg e, if_neg e]
      · show cpR _ _ _ _ _ = cpR _ _ _ _ _
        rw [cpR_hi (by omega), cpR_hi (by omega)]
  have P129 : ∀ (b : Nat) (S1 : SA) (G1 : yH) (l2 l3 l4 : Option Value), gK (fun τ => τ.1 = st' ∨ τ = yT0) G G1 → gOK G1 → isST Γ G1 st' b S1 (cpR w (w 10) (w 11) 0) → Y Γ Z 47 452 Q G1 129 [some (.ref a), some (.ref b), l2, l3, l4] [] := by
    intro b S1 G1 l2 l3 l4 hK hO1 hN
    have hB1 := hB.kk hK
    have hI1 := hI.kk hB hK hP
    have hst1 := hI1.1
    have hll := hI1.2.2.2.1
    obtain ⟨fl, hllc⟩ := hll.c
    first | refine y_ald_n E dX2_copy_129 (by rfl) ?_ | refine y_aload_n E dX2_copy_129 (by rfl) ?_
    refine y_get E dX2_copy_130 fl_X2_24_X2 (hst1) (by rfl) ?_
    refine y_callU E dX2_copy_133 lk_X2_74_J4 (c_li_new hll (by simp; omega)) (by rfl) (hllc) rfl (by decide) (by omega) (by omega) rfl (Nat.le_of_ble_eq_true rfl) ?_ (fun _ _ _ h => h.elim)
    rintro _ G2 ⟨it, vv, rfl, h0, hit, hG9⟩
    first | refine y_ast_n (j := 2) E dX2_copy_136 rfl (Nat.le_of_ble_eq_true rfl) ?_ | refine y_astore_n (j := 2) E dX2_copy_136 rfl (Nat.le_of_ble_eq_true rfl) ?_ | refine y_astore_n (j := 2) (r := none) E dX2_copy_136 rfl (Nat.le_of_ble_eq_true rfl) ?_
    have hE2 : gExt G1 G2 := by rw [hG9]; exact gExt_n h0
    exact y_widen (by omega) (by omega) (L3 b it S1 _ 0 G2 _ (gK_t hK (gK_e hE2)) (by rw [hG9]; exact gOK_it hO1) hit (hN.e hB1 hE2) (by omega))
  have L2 : ∀ (b it : Nat), ∀ (i : Nat), ∀ (S1 : SA) (G1 : yH) (l3 l4 : Option Value), gK (fun τ => τ.1 = st' ∨ τ = yT0) G G1 → gOK G1 → isIT Γ G1 it (sTl S) (st, 1) (twL S w) i → isST Γ G1 st' b S1 (cpR w i (w 11) 0) → (i : Int) ≤ w 10 → Y Γ Z (31 + 2 * i) (260 + 24 * i) Q G1 58 [some (.ref a), some (.ref b), some (.ref it), l3, l4] [] := by
    intro b it
    refine loopDownN (w 10).toNat ?_
    intro i ih S1 G1 l3 l4 hK hO1 hit hN hi
    have hB1 := hB.kk hK
    obtain ⟨fs, hitc⟩ := hit.c
    have T116 : ∀ (q : Nat) (G3 : yH) (l3 : Option Value), gK (fun τ => τ.1 = st' ∨ τ = yT0) G G3 → gOK G3 → isIT Γ G3 it (sTl S) (st, 1) (twL S w) (i + 1) → isST Γ G3 st' b S1 (cpR w i (w 11) 0) → G3 q = some (some (st', 5), twX Γ S1 w i) → (i : Int) < w 10 → Y Γ Z (31 + 2 * i + 1) (260 + 24 * i + 9) Q G3 116 [some (.ref a), some (.ref b), some (.ref it), l3, some (.ref q)] [] := by
      intro q G3 l3 hK3 hO3 hit3 hN3 hq hiw
      have hb := hN3.1
      have hB3 := hB.kk hK3
      have hal := hN3.2.1
      obtain ⟨fa, halc⟩ := hal.c
      first | refine y_ald_n E dX2_copy_116 (by rfl) ?_ | refine y_aload_n E dX2_copy_116 (by rfl) ?_
      refine y_get E dX2_copy_117 fl_X2_12_X2 (hb) (by rfl) ?_
      first | refine y_ald E dX2_copy_120 (by rfl) ?_ | refine y_aload E dX2_copy_120 (by rfl) ?_
      refine y_callV E dX2_copy_122 lk_X2_53 (c_J2_add hal (by rw [twL_len, cpR_10]; omega) hB3 (isST_okT hN3) (okR_t hq)) (by rfl) (halc) rfl (by decide) (by omega) (by omega) rfl (Nat.le_of_ble_eq_true rfl) ?_ (fun _ _ _ h => h.elim)
      rintro _ G4' ⟨rfl, hal1, hk1'⟩
      obtain ⟨G4, he1, hk3, hk4, hO4⟩ := rs_all hk1' hO3 ⟨fun q => (by cases q), fun q => (by cases q)⟩
      refine y_forget he1 ?_
      have hal1 := hal1.kk (hB3.kk hk1') hk4 (by simp)
      have hit4 := hit3.kk hk3 (fun q => by cases q) (fun q => by cases q; omega)
      have hK4 := gK_t hK3 (gK_m hk3 (fun τ q => Or.inl (by rw [q])))
      have hN4 := isST_tadd (v := cpR w ((i + 1 : Nat) : Int) (w 11) 0) hB3 hN3 (by rw [cpR_10]; omega) (by rw [cpR_12]; omega) hk3 hal1 (by rw [cpR_10, Int.toNat_natCast, show twX Γ S1 (cpR w ((i + 1 : Nat) : Int) (w 11) 0) i = twX Γ S1 w i from twX_c (fun j j0 j1 => cpR_hi (by omega))]; exact hq) (by rw [cpR_10, cpR_10]; omega) (fun k k0 k1 => cpR_10n k0)
      refine y_pop E dX2_copy_125 rfl ?_
      refine y_goto (tgt := 58) E dX2_copy_126 (by decide) ?_
      exact y_widen (by omega) (by omega) (ih (by omega) _ G4 _ _ hK4 hO4 hit4 hN4 (by omega))
    by_cases h3 : tw w i 3 < 0
    · first | refine y_ald_n E dX2_copy_58 (by rfl) ?_ | refine y_aload_n E dX2_copy_58 (by rfl) ?_
      refine y_callF E dX2_copy_59 lk_X2_37_J24 (c_it_has hit (by omega)) (by rfl) (hitc) rfl (by decide) (by omega) (by omega) rfl (Nat.le_of_ble_eq_true rfl) ?_ (fun _ _ _ h => h.elim)
      rintro _ _ ⟨rfl, hG9⟩
      rw [hG9]
      clear hG9
      refine y_ifd_eq (tgt := 129) E dX2_copy_64 (by decide) (fun h64 => ?_) (fun h64 => ?_)
      · exact y_widen (by omega) (by omega) (P129 b S1 G1 _ _ _ hK hO1 (by rw [show w 10 = (i : Int) by omega]; exact hN))
      · first | refine y_ald_n E dX2_copy_67 (by rfl) ?_ | refine y_aload_n E dX2_copy_67 (by rfl) ?_
        refine y_callF E dX2_copy_68 lk_X2_43_J24 (c_it_next hit (twL_at (by omega))) (by rfl) (hitc) rfl (by decide) (by omega) (by omega) rfl (Nat.le_of_ble_eq_true rfl) ?_ (fun _ _ _ h => h.elim)
        rintro _ G2 ⟨rfl, hit2, vv, hG9⟩
        have hSi := hS.t (t := (i : Int)) (by omega) (by omega)
        have hk2 : gK (· = yT0) G1 G2 := by rw [hG9]; exact gK_w _ hitc rfl
        have hK2 := gK_t hK (gK_m hk2 (fun τ q => Or.inr q))
        have hO2 : gOK G2 := by rw [hG9]; exact gOK_it hO1
        have hB2 := hB.kk hK2
        have hI2 := hI.kk hB hK2 hP
        have hN2 := hN.kk hB1 hk2 (fun j q => by cases q; omega)
        have hiw := isST_t hI2 (t := i) (by omega)
        unfold twX at hiw
        rw [lnO_n h3] at hiw
        refine y_ccast E dX2_copy_73 q1008 (hiw) rfl (Or.inl rfl) ?_
        first | refine y_ast_n (j := 3) E dX2_copy_76 rfl (Nat.le_of_ble_eq_true rfl) ?_ | refine y_astore_n (j := 3) E dX2_copy_76 rfl (Nat.le_of_ble_eq_true rfl) ?_ | refine y_astore_n (j := 3) (r := none) E dX2_copy_76 rfl (Nat.le_of_ble_eq_true rfl) ?_
        first | refine y_ald_n E dX2_copy_77 (by rfl) ?_ | refine y_aload_n E dX2_copy_77 (by rfl) ?_
        refine y_callV E dX2_copy_78 lk_X2_59 (c_X6_copy (st', 5) hiw (by omega) (by omega)) (by rfl) (hiw) rfl (by decide) (by omega) (by omega) rfl (Nat.le_of_ble_eq_true rfl) ?_ (fun _ _ _ h => h.elim)
        rintro _ G3 ⟨q, hq, rfl, hG9⟩
        have hE3 : gExt G2 G3 := by rw [hG9]; exact gExt_n hq
        have hq3 := congrFun hG9 q
        rw [gset_s] at hq3
        have hiw := hE3 _ _ hiw
        first | refine y_ast E dX2_copy_81 (Nat.le_of_ble_eq_true rfl) ?_ | refine y_astore E dX2_copy_81 (Nat.le_of_ble_eq_true rfl) ?_ | refine y_astore (r := none) E dX2_copy_81 (Nat.le_of_ble_eq_true rfl) ?_
        first | refine y_ald E dX2_copy_83 (by rfl) ?_ | refine y_aload E dX2_copy_83 (by rfl) ?_
        first | refine y_ald_n E dX2_copy_85 (by rfl) ?_ | refine y_aload_n E dX2_copy_85 (by rfl) ?_
        refine y_getN E dX2_copy_86 fl_X2_62_X6 (hiw) (by rfl) ?_
        refine y_ifnonnull_n E dX2_copy_89 ?_
        refine y_null E dX2_copy_92 ?_
        refine y_goto (tgt := 113) E dX2_copy_93 (by decide) ?_
        refine y_putN E dX2_copy_113 fl_X2_62_X6 fw_X6_6 (by first | rfl | exact nar_r _ _) (by first | rfl | exact fit_r _ _) (hq3) (Nat.le_of_ble_eq_true rfl) ?_
        refine y_heap (show _ = G3 from ?_) (y_widen (by omega) (by omega) (T116 q G3 _ (gK_t hK2 (gK_e hE3)) (by rw [hG9]; exact gOK_t hO2 hs0) (hit2.e hE3) (hN2.e hB2 hE3) (by rw [hq3]; unfold twX; rw [lnO_n h3]) (by omega)))
        rw [hG9, gset_gset]
        rfl
        skip
    · first | refine y_ald_n E dX2_copy_58 (by rfl) ?_ | refine y_aload_n E dX2_copy_58 (by rfl) ?_
      refine y_callF E dX2_copy_59 lk_X2_37_J24 (c_it_has hit (by omega)) (by rfl) (hitc) rfl (by decide) (by omega) (by omega) rfl (Nat.le_of_ble_eq_true rfl) ?_ (fun _ _ _ h => h.elim)
      rintro _ _ ⟨rfl, hG9⟩
      rw [hG9]
      clear hG9
      refine y_ifd_eq (tgt := 129) E dX2_copy_64 (by decide) (fun h64 => ?_) (fun h64 => ?_)
      · exact y_widen (by omega) (by omega) (P129 b S1 G1 _ _ _ hK hO1 (by rw [show w 10 = (i : Int) by omega]; exact hN))
      · first | refine y_ald_n E dX2_copy_67 (by rfl) ?_ | refine y_aload_n E dX2_copy_67 (by rfl) ?_
        refine y_callF E dX2_copy_68 lk_X2_43_J24 (c_it_next hit (twL_at (by omega))) (by rfl) (hitc) rfl (by decide) (by omega) (by omega) rfl (Nat.le_of_ble_eq_true rfl) ?_ (fun _ _ _ h => h.elim)
        rintro _ G2 ⟨rfl, hit2, vv, hG9⟩
        have hSi := hS.t (t := (i : Int)) (by omega) (by omega)
        have hli := hL i (by omega) (by omega)
        have hk2 : gK (· = yT0) G1 G2 := by rw [hG9]; exact gK_w _ hitc rfl
        have hK2 := gK_t hK (gK_m hk2 (fun τ q => Or.inr q))
        have hO2 : gOK G2 := by rw [hG9]; exact gOK_it hO1
        have hB2 := hB.kk hK2
        have hI2 := hI.kk hB hK2 hP
        have hN2 := hN.kk hB1 hk2 (fun j q => by cases q; omega)
        have hiw := isST_t hI2 (t := i) (by omega)
        unfold twX at hiw
        rw [lnO_s (by omega)] at hiw
        have hln := isST_l hI2 (l := (tw w i 3).toNat) (by omega)
        unfold lnX at hln
        refine y_ccast E dX2_copy_73 q1008 (hiw) rfl (Or.inl rfl) ?_
        first | refine y_ast_n (j := 3) E dX2_copy_76 rfl (Nat.le_of_ble_eq_true rfl) ?_ | refine y_astore_n (j := 3) E dX2_copy_76 rfl (Nat.le_of_ble_eq_true rfl) ?_ | refine y_astore_n (j := 3) (r := none) E dX2_copy_76 rfl (Nat.le_of_ble_eq_true rfl) ?_
        first | refine y_ald_n E dX2_copy_77 (by rfl) ?_ | refine y_aload_n E dX2_copy_77 (by rfl) ?_
        refine y_callV E dX2_copy_78 lk_X2_59 (c_X6_copy (st', 5) hiw (by omega) (by omega)) (by rfl) (hiw) rfl (by decide) (by omega) (by omega) rfl (Nat.le_of_ble_eq_true rfl) ?_ (fun _ _ _ h => h.elim)
        rintro _ G3 ⟨q, hq, rfl, hG9⟩
        have hE3 : gExt G2 G3 := by rw [hG9]; exact gExt_n hq
        have hq3 := congrFun hG9 q
        rw [gset_s] at hq3
        have hiw := hE3 _ _ hiw
        have hN3 := hN2.e hB2 hE3
        have hb := hN3.1
        have hal := hN3.2.2.1
        obtain ⟨fa, halc⟩ := hal.c
        have hln := hE3 _ _ hln
        have hlx := isST_l hN3 (l := (tw w i 3).toNat) (by rw [cpR_11]; omega)
        unfold lnX at hlx
        first | refine y_ast E dX2_copy_81 (Nat.le_of_ble_eq_true rfl) ?_ | refine y_astore E dX2_copy_81 (Nat.le_of_ble_eq_true rfl) ?_ | refine y_astore (r := none) E dX2_copy_81 (Nat.le_of_ble_eq_true rfl) ?_
        first | refine y_ald E dX2_copy_83 (by rfl) ?_ | refine y_aload E dX2_copy_83 (by rfl) ?_
        first | refine y_ald_n E dX2_copy_85 (by rfl) ?_ | refine y_aload_n E dX2_copy_85 (by rfl) ?_
        refine y_getN E dX2_copy_86 fl_X2_62_X6 (hiw) (by rfl) ?_
        refine y_ifnonnull_r (tgt := 96) E dX2_copy_89 (by decide) ?_
        first | refine y_ald_n E dX2_copy_96 (by rfl) ?_ | refine y_aload_n E dX2_copy_96 (by rfl) ?_
        refine y_get E dX2_copy_97 fl_X2_18_X2 (hb) (by rfl) ?_
        first | refine y_ald_n E dX2_copy_100 (by rfl) ?_ | refine y_aload_n E dX2_copy_100 (by rfl) ?_
        refine y_getN E dX2_copy_101 fl_X2_62_X6 (hiw) (by rfl) ?_
        refine y_getN E dX2_copy_104 fl_X2_66_X5 (hln) (by rfl) ?_
        refine y_callV E dX2_copy_107 lk_X2_70 (c_J2_get (i := (((tw w i 3).toNat : Nat) : Int)) hal (by rw [lnL_len, cpR_11]; omega)) (by rfl) (halc) rfl (by decide) (by omega) (by omega) rfl (Nat.le_of_ble_eq_true rfl) ?_ (fun _ _ _ h => h.elim)
        rintro _ _ ⟨⟨x, hx, rfl⟩, rfl⟩
        rw [Int.toNat_natCast, lnL_at (by rw [cpR_11]; omega)] at hx
        cases hx
        refine y_ccast E dX2_copy_110 q949 (hlx) rfl (Or.inl rfl) ?_
        refine y_putN E dX2_copy_113 fl_X2_62_X6 fw_X6_6 (by first | rfl | exact nar_r _ _) (by first | rfl | exact fit_r _ _) (hq3) (Nat.le_of_ble_eq_true rfl) ?_
        refine y_heap (show _ = gset G2 q (some (st', 5), twX Γ S1 w i) from ?_) (y_widen (by omega) (by omega) (T116 q _ _ (gK_t hK2 (gK_n _ hq)) (gOK_t hO2 hs0) (hit2.e (gExt_n hq)) (hN2.e hB2 (gExt_n hq)) (gset_s _ _ _) (by omega)))
        rw [hG9, gset_gset]
        unfold twX
        rw [lnO_s (by omega)]
        rfl
        skip
  have P50 : ∀ (b : Nat) (S1 : SA) (G1 : yH) (l2 l3 l4 : Option Value), gK (fun τ => τ.1 = st' ∨ τ = yT0) G G1 → gOK G1 → isST Γ G1 st' b S1 (cpR w 0 (w 11) 0) → Y Γ Z 30 256 Q G1 50 [some (.ref a), some (.ref b), l2, l3, l4] [] := by
    intro b S1 G1 l2 l3 l4 hK hO1 hN
    have hB1 := hB.kk hK
    have hI1 := hI.kk hB hK hP
    have hst1 := hI1.1
    have hal := hI1.2.1
    obtain ⟨fl, halc⟩ := hal.c
    first | refine y_ald_n E dX2_copy_50 (by rfl) ?_ | refine y_aload_n E dX2_copy_50 (by rfl) ?_
    refine y_get E dX2_copy_51 fl_X2_12_X2 (hst1) (by rfl) ?_
    refine y_callV E dX2_copy_54 lk_X2_33 (c_it_new hB1 hal) (by rfl) (halc) rfl (by decide) (by omega) (by omega) rfl (Nat.le_of_ble_eq_true rfl) ?_ (fun _ _ _ h => h.elim)
    rintro _ G2 ⟨it, vv, rfl, h0, hit, hG9⟩
    first | refine y_ast_n (j := 2) E dX2_copy_57 rfl (Nat.le_of_ble_eq_true rfl) ?_ | refine y_astore_n (j := 2) E dX2_copy_57 rfl (Nat.le_of_ble_eq_true rfl) ?_ | refine y_astore_n (j := 2) (r := none) E dX2_copy_57 rfl (Nat.le_of_ble_eq_true rfl) ?_
    have hE2 : gExt G1 G2 := by rw [hG9]; exact gExt_n h0
    exact y_widen (by omega) (by omega) (L2 b it 0 S1 G2 _ _ (gK_t hK (gK_e hE2)) (by rw [hG9]; exact gOK_it hO1) hit (hN.e hB1 hE2) (by omega))
  have L1 : ∀ (b it : Nat) (l4 : Option Value), ∀ (i : Nat), ∀ (S1 : SA) (G1 : yH) (l3 : Option Value), gK (fun τ => τ.1 = st' ∨ τ = yT0) G G1 → gOK G1 → isIT Γ G1 it (sLl S) (st, 2) (lnL S w) i → isST Γ G1 st' b S1 (cpR w 0 i 0) → (i : Int) ≤ w 11 → Y Γ Z (6 + 2 * i) (28 + 19 * i) Q G1 16 [some (.ref a), some (.ref b), some (.ref it), l3, l4] [] := by
    intro b it l4
    refine loopDownN (w 11).toNat ?_
    intro i ih S1 G1 l3 hK hO1 hit hN hi
    have hB1 := hB.kk hK
    obtain ⟨fs, hitc⟩ := hit.c
    first | refine y_ald_n E dX2_copy_16 (by rfl) ?_ | refine y_aload_n E dX2_copy_16 (by rfl) ?_
    refine y_callF E dX2_copy_17 lk_X2_37_J24 (c_it_has hit (by omega)) (by rfl) (hitc) rfl (by decide) (by omega) (by omega) rfl (Nat.le_of_ble_eq_true rfl) ?_ (fun _ _ _ h => h.elim)
    rintro _ _ ⟨rfl, hG9⟩
    rw [hG9]
    clear hG9
    refine y_ifd_eq (tgt := 50) E dX2_copy_22 (by decide) (fun h22 => ?_) (fun h22 => ?_)
    · exact y_widen (by omega) (by omega) (P50 b S1 G1 _ _ _ hK hO1 (by rw [show w 11 = (i : Int) by omega]; exact hN))
    · first | refine y_ald_n E dX2_copy_25 (by rfl) ?_ | refine y_aload_n E dX2_copy_25 (by rfl) ?_
      refine y_callF E dX2_copy_26 lk_X2_43_J24 (c_it_next hit (lnL_at (by omega))) (by rfl) (hitc) rfl (by decide) (by omega) (by omega) rfl (Nat.le_of_ble_eq_true rfl) ?_ (fun _ _ _ h => h.elim)
      rintro _ G2 ⟨rfl, hit2, vv, hG9⟩
      have hk2 : gK (· = yT0) G1 G2 := by rw [hG9]; exact gK_w _ hitc rfl
      have hK2 := gK_t hK (gK_m hk2 (fun τ q => Or.inr q))
      have hO2 : gOK G2 := by rw [hG9]; exact gOK_it hO1
      have hB2 := hB.kk hK2
      have hI2 := hI.kk hB hK2 hP
      have hN2 := hN.kk hB1 hk2 (fun j q => by cases q; omega)
      have hb := hN2.1
      obtain ⟨fa, halc⟩ := hN2.2.2.1.c
      have hlc := isST_l hI2 (l := i) (by omega)
      unfold lnX at hlc
      refine y_ccast E dX2_copy_31 q949 (hlc) rfl (Or.inl rfl) ?_
      first | refine y_ast_n (j := 3) E dX2_copy_34 rfl (Nat.le_of_ble_eq_true rfl) ?_ | refine y_astore_n (j := 3) E dX2_copy_34 rfl (Nat.le_of_ble_eq_true rfl) ?_ | refine y_astore_n (j := 3) (r := none) E dX2_copy_34 rfl (Nat.le_of_ble_eq_true rfl) ?_
      first | refine y_ald_n E dX2_copy_35 (by rfl) ?_ | refine y_aload_n E dX2_copy_35 (by rfl) ?_
      refine y_get E dX2_copy_36 fl_X2_18_X2 (hb) (by rfl) ?_
      first | refine y_ald_n E dX2_copy_39 (by rfl) ?_ | refine y_aload_n E dX2_copy_39 (by rfl) ?_
      refine y_callV E dX2_copy_40 lk_X2_49 (c_X5_copy (st', 6) hlc (by unfold b2i; split <;> simp)) (by rfl) (hlc) rfl (by decide) (by omega) (by omega) rfl (Nat.le_of_ble_eq_true rfl) ?_ (fun _ _ _ h => h.elim)
      rintro _ G3 ⟨q, hq, rfl, hG9⟩
      have hE3 : gExt G2 G3 := by rw [hG9]; exact gExt_n hq
      have hq3 := congrFun hG9 q
      rw [gset_s] at hq3
      have hK3 := gK_t hK2 (gK_e hE3)
      have hB3 := hB.kk hK3
      have hN3 := hN2.e hB2 hE3
      have hal := hN3.2.2.1
      obtain ⟨fa3, halc⟩ := hal.c
      have hit3 := hit2.e hE3
      have hO3 : gOK G3 := by rw [hG9]; exact gOK_t hO2 hs0
      refine y_callV E dX2_copy_43 lk_X2_53 (c_J2_add hal (by rw [lnL_len, cpR_11]; omega) hB3 (isST_okL hN3) (okR_l hq3)) (by rfl) (halc) rfl (by decide) (by omega) (by omega) rfl (Nat.le_of_ble_eq_true rfl) ?_ (fun _ _ _ h => h.elim)
      rintro _ G4' ⟨rfl, hal1, hk1'⟩
      obtain ⟨G4, he1, hk3, hk4, hO4⟩ := rs_all hk1' hO3 ⟨fun q => (by cases q), fun q => (by cases q)⟩
      refine y_forget he1 ?_
      have hal1 := hal1.kk (hB3.kk hk1') hk4 (by simp)
      have hit4 := hit3.kk hk3 (fun q => by cases q) (fun q => by cases q; omega)
      have hK4 := gK_t hK3 (gK_m hk3 (fun τ q => Or.inl (by rw [q])))
      have hN4 := isST_ladd (v := cpR w 0 ((i + 1 : Nat) : Int) 0) hB3 hN3 (by rw [cpR_10]; omega) (by rw [cpR_11]; omega) (by rw [cpR_12]; omega) (fun t t0 t1 => by rw [cpR_10] at t1; omega) (fun k k0 k1 => by rw [cpR_12] at k1; omega) (fun k k0 k1 => by rw [cpR_12] at k1; omega) hk3 hal1 (by rw [cpR_11, Int.toNat_natCast, show lnX (cpR w 0 ((i + 1 : Nat) : Int) 0) i = lnX w i from lnX_c (fun j j0 j1 => cpR_hi (by omega))]; exact hq3) (by rw [cpR_11, cpR_11]; omega) (fun k k0 k1 => cpR_11n k0)
      refine y_pop E dX2_copy_46 rfl ?_
      refine y_goto (tgt := 16) E dX2_copy_47 (by decide) ?_
      exact y_widen (by omega) (by omega) (ih (by omega) _ G4 _ hK4 hO4 hit4 hN4 (by omega))
  refine y_new E (st', 0) dX2_copy_0 nw_X2_13 (by omega) (by omega) (fun q0 hq0 => ?_)
  refine y_dup E dX2_copy_3 rfl ?_
  refine y_callI E dX2_copy_4 lk_X2_32 (c_X2_init hs0 (hB.kk (gK_n (P := fun _ => False) _ hq0)) (gOK_t hO hs0) (gset_s _ _ _)) (by rfl) (by decide) (by omega) (by omega) rfl (Nat.le_of_ble_eq_true rfl) ?_ (fun _ _ _ h => h.elim)
  rintro _ G1 ⟨rfl, ⟨S1, hN⟩, hk1, hO1⟩
  have hK1 : gK (fun τ => τ.1 = st' ∨ τ = yT0) G G1 := gK_t (gK_n _ hq0) (gK_m hk1 (fun τ q => Or.inl (by rw [q])))
  have hB1 := hB.kk hK1
  have hI1 := hI.kk hB hK1 hP
  have hst1 := hI1.1
  have hal := hI1.2.2.1
  obtain ⟨fa, halc⟩ := hal.c
  first | refine y_ast_n (j := 1) E dX2_copy_7 rfl (Nat.le_of_ble_eq_true rfl) ?_ | refine y_astore_n (j := 1) E dX2_copy_7 rfl (Nat.le_of_ble_eq_true rfl) ?_ | refine y_astore_n (j := 1) (r := none) E dX2_copy_7 rfl (Nat.le_of_ble_eq_true rfl) ?_
  first | refine y_ald_n E dX2_copy_8 (by rfl) ?_ | refine y_aload_n E dX2_copy_8 (by rfl) ?_
  skip
  refine y_get E dX2_copy_9 fl_X2_18_X2 (hst1) (by rfl) ?_
  refine y_callV E dX2_copy_12 lk_X2_33 (c_it_new hB1 hal) (by rfl) (halc) rfl (by decide) (by omega) (by omega) rfl (Nat.le_of_ble_eq_true rfl) ?_ (fun _ _ _ h => h.elim)
  rintro _ G2 ⟨it, vv, rfl, h0, hit, hG9⟩
  first | refine y_ast_n (j := 2) E dX2_copy_15 rfl (Nat.le_of_ble_eq_true rfl) ?_ | refine y_astore_n (j := 2) E dX2_copy_15 rfl (Nat.le_of_ble_eq_true rfl) ?_ | refine y_astore_n (j := 2) (r := none) E dX2_copy_15 rfl (Nat.le_of_ble_eq_true rfl) ?_
  have hE2 : gExt G1 G2 := by rw [hG9]; exact gExt_n h0
  exact y_widen (by omega) (by omega) (L1 q0 it _ 0 S1 G2 _ (gK_t hK1 (gK_e hE2)) (by rw [hG9]; exact gOK_it hO1) hit ((isST_z hN).e hB1 hE2) (by omega))
end Cp
