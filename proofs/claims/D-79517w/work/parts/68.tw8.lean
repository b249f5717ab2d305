/-! ===== the twin: nights, scrap ===== -/
section Rw8
theorem remT_5 (T : Nat → Int → Int) : remT T 5 = T 5 := rfl
theorem remT_8 (T : Nat → Int → Int) : remT T 8 = T 8 := rfl
theorem bL0 {l : Int} (h : 0 ≤ l ∧ l < 12) : loB (89 + 3 * l + 0) = 0 ∧ hiB (89 + 3 * l + 0) = 60 := by
  have e : (89 + 3 * l + 0 - 89) % 3 = 0 := by omega
  constructor
  · unfold loB
    rw [if_neg (by omega), if_neg (by omega), if_neg (by omega)]
  · unfold hiB
    rw [if_neg (by omega), if_neg (by omega), if_neg (by omega), if_neg (by omega), if_neg (by omega), if_neg (by omega)]
/-- lit towers have lenses -/
def LT (w : Int → Int) : Prop := ∀ t, 0 ≤ t → t < w 10 → tw w t 4 = 1 → 0 ≤ tw w t 3
def lessS (w : Int → Int) (t : Int) : Int := if 5 ≤ w (3 + tw w t 0 / 10) then 2 else 1
def ng1 (t : Int) (w : Int → Int) : Int → Int := if tw w t 4 = 1 then upI w (89 + 3 * tw w t 3 + 0) (max 0 (w (89 + 3 * tw w t 3 + 0) - lessS w t)) else w
def ng2 (k : Int) (w : Int → Int) : Int → Int := upI w (89 + 3 * w (13 + k) + 0) (w (89 + 3 * w (13 + k) + 0) + (if w (89 + 3 * w (13 + k) + 0) < w (89 + 3 * w (13 + k) + 1) then 1 else 0))
noncomputable def ngA (w : Int → Int) : Int → Int := itI ng1 (w 10) (upI w 0 (w 0 + 1))
noncomputable def ngB (w : Int → Int) : Int → Int := itI ng2 (w 12) w
noncomputable def ngtS (w : Int → Int) : Int → Int := stlS (ngB (ngA w))
noncomputable def ngsS (n : Int) (w : Int → Int) : Int → Int := itI (fun _ w => ngtS w) n w
theorem LT_c {w v : Int → Int} (hn : v 10 = w 10) (h : ∀ t, 0 ≤ t → t < w 10 → tw v t 3 = tw w t 3 ∧ (tw v t 4 = 1 → tw w t 4 = 1)) (hL : LT w) : LT v := by
  intro t h0 h1 h2
  rw [hn] at h1
  rw [(h t h0 h1).1]
  exact hL t h0 h1 ((h t h0 h1).2 h2)
theorem ng1_n {w : Int → Int} {t k : Int} (hl : tw w t 4 = 1 → 0 ≤ tw w t 3) (h : k < 89 ∨ 125 ≤ k ∨ (k - 89) % 3 ≠ 0) (h2 : tw w t 3 ≤ 11) : ng1 t w k = w k := by
  unfold ng1
  split
  · rename_i h4
    have := hl h4
    rw [upI_n _ (by omega)]
  · rfl
theorem ng1_SH {w : Int → Int} (h : SH w) {t : Int} (h0 : 0 ≤ t) (h1 : t < 8) (hl : tw w t 4 = 1 → 0 ≤ tw w t 3) : SH (ng1 t w) := by
  have h2 := h.t h0 h1
  unfold ng1
  split
  · rename_i h4
    have h5 := h.l (l := tw w t 3) (hl h4) (by omega)
    unfold lw at h5
    refine h.up (fun _ _ => ?_)
    rw [(bL0 ⟨hl h4, by omega⟩).1, (bL0 ⟨hl h4, by omega⟩).2]
    generalize w (89 + 3 * tw w t 3 + 0) = p at *
    have : lessS w t = 1 ∨ lessS w t = 2 := by unfold lessS; split <;> simp
    omega
  · exact h
theorem ngA_ok {w : Int → Int} (h : SH w) (hL : LT w) : ∀ i, 0 ≤ i → (i ≤ w 10 → SH (itI ng1 i (upI w 0 (w 0 + 1))) ∧ ∀ k, k ≠ 0 → (k < 89 ∨ (k - 89) % 3 ≠ 0) → itI ng1 i (upI w 0 (w 0 + 1)) k = w k) := by
  have hn := h.nt
  apply intUp
  · intro _
    rw [itI_0]
    exact ⟨h.up (fun _ _ => by omega), fun k k0 _ => upI_n _ k0⟩
  · intro i h0 ih h1
    obtain ⟨a, b⟩ := ih (by omega)
    rw [itI_s h0]
    have hl : tw (itI ng1 i (upI w 0 (w 0 + 1))) i 4 = 1 → 0 ≤ tw (itI ng1 i (upI w 0 (w 0 + 1))) i 3 := by
      unfold tw
      rw [b _ (by omega) (by omega), b _ (by omega) (by omega)]
      exact hL i h0 (by omega)
    have h3 := (a.t (t := i) h0 (by omega)).2.2.2.1
    exact ⟨ng1_SH a h0 (by omega) hl, fun k k0 k1 => by rw [ng1_n hl (by omega) (by omega), b k k0 k1]⟩
theorem ng2_n {x : Int → Int} {i k : Int} (h : 0 ≤ x (13 + i) ∧ x (13 + i) ≤ 11) (hk : k < 89 ∨ (k - 89) % 3 ≠ 0) : ng2 i x k = x k := by
  unfold ng2
  rw [upI_n _ (by omega)]
theorem ng2_SH {x : Int → Int} (a : SH x) {i : Int} (h0 : 0 ≤ i) (h1 : i < 12) : SH (ng2 i x) := by
  have h3 := a.sto (k := i) h0 h1
  have h5 := a.l (l := x (13 + i)) (by omega) (by omega)
  unfold lw at h5
  unfold ng2
  generalize x (13 + i) = l at *
  generalize x (89 + 3 * l + 0) = p at *
  generalize x (89 + 3 * l + 1) = f at *
  refine a.up (fun _ _ => ?_)
  rw [(bL0 (by omega)).1, (bL0 (by omega)).2]
  omega
theorem ngB_ok {w : Int → Int} (h : SH w) : ∀ i, 0 ≤ i → (i ≤ w 12 → SH (itI ng2 i w) ∧ ∀ k, (k < 89 ∨ (k - 89) % 3 ≠ 0) → itI ng2 i w k = w k) := by
  have hn := h.ns
  apply intUp
  · intro _
    rw [itI_0]
    exact ⟨h, fun k _ => rfl⟩
  · intro i h0 ih h1
    obtain ⟨a, b⟩ := ih (by omega)
    rw [itI_s h0]
    have h3 := a.sto (k := i) h0 (by omega)
    exact ⟨ng2_SH a h0 (by omega), fun k k1 => by rw [ng2_n h3 k1, b k k1]⟩
theorem stlF_k : ∀ (n : Nat) {w : Int → Int} {k : Int}, SH w → UT w → k ≠ 1 → (∀ t, 0 ≤ t → t < w 10 → k ≠ 25 + 8 * t + 4) → stlF n w k = w k
  | 0, _, _, _, _, _, _ => rfl
  | n + 1, w, k, h, hU, k1, kt => by
    simp only [stlF]
    split
    · rfl
    · have h1 := h.nt
      obtain ⟨a, b, c, -⟩ := stp2_ok h hU (by omega)
      rw [stlF_k n a b k1 (fun t t0 t1 => kt t t0 (by omega))]
      exact stp2_n k1 (kt _ (by omega) (misS_in h1.1 (by omega)).1)
theorem stlS_k {w : Int → Int} {k : Int} (h : SH w) (hU : UT w) (k1 : k ≠ 1) (k2 : k ≠ 2) (kt : ∀ t, 0 ≤ t → t < w 10 → k ≠ 25 + 8 * t + 4) : stlS w k = w k := by
  have h1 := h.nt
  obtain ⟨a, b, c⟩ := stl1_ok h hU
  unfold stlS
  rw [stlF_k 8 a b k1 (fun t t0 t1 => kt t t0 (by omega))]
  exact (it1_ok h (w 10) h1.1 h1.2).2 k k2 kt
theorem up4 {w : Int → Int} {k : Int} {t : Int} (h : tw (upI w k 0) t 4 = 1) : tw w t 4 = 1 := by
  unfold tw at *
  by_cases e : 25 + 8 * t + 4 = k
  · rw [e, upI_s] at h
    omega
  · rwa [upI_n _ e] at h
theorem up4n {w : Int → Int} {k v : Int} {t : Int} (hk : k ≠ 25 + 8 * t + 4) (h : tw (upI w k v) t 4 = 1) : tw w t 4 = 1 := by
  unfold tw at *
  rwa [upI_n _ (by omega)] at h
theorem stp2_4 {w : Int → Int} {t : Int} (h0 : 0 ≤ t) (h : tw (stp2 w) t 4 = 1) : tw w t 4 = 1 := up4 (up4n (by omega) h)
theorem st1_4 {w : Int → Int} {s t : Int} (h0 : 0 ≤ t) (h : tw (st1 s w) t 4 = 1) : tw w t 4 = 1 := by
  unfold st1 at h
  split at h
  · exact up4 (up4n (by omega) h)
  · exact h
theorem stlF_4 : ∀ (n : Nat) {w : Int → Int} {t : Int}, 0 ≤ t → tw (stlF n w) t 4 = 1 → tw w t 4 = 1
  | 0, _, _, _, h => h
  | n + 1, w, t, h0, h => by
    simp only [stlF] at h
    split at h
    · exact h
    · exact stp2_4 h0 (stlF_4 n h0 h)
theorem stlS_4 {w : Int → Int} {t : Int} (hn : 0 ≤ w 10) (h0 : 0 ≤ t) (h : tw (stlS w) t 4 = 1) : tw w t 4 = 1 := by
  have h2 : tw (stl1 w) t 4 = 1 := stlF_4 8 h0 h
  have : ∀ i, 0 ≤ i → (tw (itI st1 i w) t 4 = 1 → tw w t 4 = 1) := by
    apply intUp
    · rw [itI_0]
      exact id
    · intro i hi ih q
      rw [itI_s hi] at q
      exact ih (st1_4 h0 q)
  exact this _ hn h2
/-- what is the same behind light: all but counts and light -/
theorem LT.stl {w : Int → Int} (h : SH w) (hU : UT w) (hL : LT w) : LT (stlS w) := LT_c (stlS_ok h hU).2.2 (fun t t0 t1 => ⟨stlS_k h hU (by omega) (by omega) (fun s s0 s1 => by omega), stlS_4 h.nt.1 t0⟩) hL
theorem ngA_all {w : Int → Int} (h : SH w) (hU : UT w) (hL : LT w) : SH (ngA w) ∧ UT (ngA w) ∧ LT (ngA w) ∧ ngA w 10 = w 10 ∧ ngA w 12 = w 12 := by
  have hn := h.nt
  obtain ⟨a, b⟩ := ngA_ok h hL (w 10) (by omega) (by omega)
  have h10 : ngA w 10 = w 10 := b 10 (by omega) (by omega)
  exact ⟨a, UT_c h10 (fun t t0 t1 => ⟨b _ (by omega) (by omega), b _ (by omega) (by omega)⟩) hU, LT_c h10 (fun t t0 t1 => ⟨b _ (by omega) (by omega), fun q => by rw [← q]; exact (b _ (by omega) (by omega)).symm⟩) hL, h10, b 12 (by omega) (by omega)⟩
theorem ngB_all {w : Int → Int} (h : SH w) (hU : UT w) (hL : LT w) : SH (ngB w) ∧ UT (ngB w) ∧ LT (ngB w) ∧ ngB w 10 = w 10 := by
  have hn := h.nt
  have hs := h.ns
  obtain ⟨a, b⟩ := ngB_ok h (w 12) (by omega) (by omega)
  have h10 : ngB w 10 = w 10 := b 10 (by omega)
  exact ⟨a, UT_c h10 (fun t t0 t1 => ⟨b _ (by omega), b _ (by omega)⟩) hU, LT_c h10 (fun t t0 t1 => ⟨b _ (by omega), fun q => by rw [← q]; exact (b _ (by omega)).symm⟩) hL, h10⟩
theorem ngt_all {w : Int → Int} (h : SH w) (hU : UT w) (hL : LT w) : SH (ngtS w) ∧ UT (ngtS w) ∧ LT (ngtS w) := by
  obtain ⟨a, b, c, -, -⟩ := ngA_all h hU hL
  obtain ⟨d, e, f, -⟩ := ngB_all a b c
  obtain ⟨g, i, -⟩ := stlS_ok d e
  exact ⟨g, i, LT.stl d e f⟩
theorem ngs_all {w : Int → Int} (h : SH w) (hU : UT w) (hL : LT w) : ∀ n, 0 ≤ n → SH (ngsS n w) ∧ UT (ngsS n w) ∧ LT (ngsS n w) := by
  apply intUp
  · unfold ngsS
    rw [itI_0]
    exact ⟨h, hU, hL⟩
  · rintro n hn ⟨a, b, c⟩
    unfold ngsS
    rw [itI_s hn]
    exact ngt_all a b c
noncomputable def o_nights (T : Nat → Int → Int) (n : Int) : Int × (Nat → Int → Int) := if dB (1 ≤ n ∧ n ≤ 30) = false then (0, failT T 1) else (stlS (ngsS n (T 5)) 1 + stlS (ngsS n (T 5)) 2 - T 5 1 - T 5 2, chgT T (ngsS n (T 5)))
/-- worn lenses leave the store -/
def scr1 (w : Int → Int) (k : Int) : Int → Int := upI (lvS w k) (89 + 3 * w (13 + k) + 2) (-2)
def scrF : Nat → Int → (Int → Int) → Int → Int × (Int → Int)
  | 0, _, w, n => (n, w)
  | f + 1, k, w, n => if k < w 12 then (if 5 ≤ w (89 + 3 * w (13 + k) + 0) then scrF f (k + 1) w n else scrF f k (scr1 w k) (n + 1)) else (n, w)
theorem scr1_ok {w : Int → Int} (h : SH w) (hU : UT w) {k : Int} (hk : 0 ≤ k ∧ k < w 12) : SH (scr1 w k) ∧ UT (scr1 w k) ∧ scr1 w k 12 = w 12 - 1 := by
  have hs := h.ns
  have hn := h.nt
  have h3 := h.sto (k := k) (by omega) (by omega)
  have key : ∀ q, q < 12 ∨ (25 ≤ q ∧ q < 89) → scr1 w k q = w q := by
    intro q hq
    unfold scr1
    rw [upI_n _ (by omega), lvS_n (by omega) (by omega)]
  refine ⟨(h.lv hk).up (fun _ _ => by unfold loB hiB; omega), UT_c (key 10 (by omega)) (fun t t0 t1 => ⟨key _ (by omega), key _ (by omega)⟩) hU, ?_⟩
  unfold scr1
  rw [upI_n _ (by omega), lvS_12 (by omega)]
theorem scrF_ok : ∀ (f : Nat) {k : Int} {w : Int → Int} {n : Int}, SH w → UT w → 0 ≤ k → SH (scrF f k w n).2 ∧ UT (scrF f k w n).2
  | 0, _, _, _, h, hU, _ => ⟨h, hU⟩
  | f + 1, k, w, n, h, hU, hk => by
    simp only [scrF]
    split
    · split
      · exact scrF_ok f h hU (by omega)
      · obtain ⟨a, b, -⟩ := scr1_ok h hU (k := k) ⟨hk, by assumption⟩
        exact scrF_ok f a b hk
    · exact ⟨h, hU⟩
noncomputable def scrS (w : Int → Int) : Int × (Int → Int) := opq 16 (scrF 12 0 w 0)
theorem scrS_e (w : Int → Int) : scrS w = scrF 12 0 w 0 := by unfold scrS; rw [opq_eq]
noncomputable def o_scrap (T : Nat → Int → Int) : Int × (Nat → Int → Int) := ((scrS (T 5)).1, chgT T (scrS (T 5)).2)
end Rw8
section Tw8
variable {Γ : yG} {A : Nat → Nat} {T : Nat → Int → Int} {G : yH}
set_option maxHeartbeats 4000000
theorem m_goesNight (hA : mA A) (hS : SH (T 5)) (hU : UT (T 5)) (hL : LT (T 5)) : Ct_X3_goesNight Γ 8 0 0 [.ref (A 0)] (mH A T G) (fun v G' => v = none ∧ G' = mH A (upN T 5 (ngtS (T 5))) G) noX := by
  refine y_start (lv0 := [some (.ref (A 0)), none, none, none]) (nm := "goesNight") (own := RX3) (by decide +kernel) rfl rfl (by exact Nat.le_of_ble_eq_true rfl) (by rfl) ?_
  intro Z Q E F
  have hn := hS.nt
  obtain ⟨hA1, hA2, hA3, hA10, hA12⟩ := ngA_all hS hU hL
  have hns := hA1.ns
  have ph2 : ∀ k : Int, ∀ x : Int → Int, ∀ l2 l3 : Option Value, x = itI ng2 k (ngA (T 5)) → 0 ≤ k → k ≤ ngA (T 5) 12 → Y Γ Z 0 0 Q (mH A (upN T 5 x) G) 108 [some (.ref (A 0)), some (.int (iI k)), l2, l3] [] := by
    refine loopDown (ngA (T 5) 12) ?_
    intro k ih x l2 l3 hxe h0 h1
    have hxa := ngB_ok hA1 k h0 (by omega)
    rw [← hxe] at hxa
    obtain ⟨hx, hxk⟩ := hxa
    have hx12 : x 12 = ngA (T 5) 12 := hxk 12 (by omega)
    have hst := fun h : k < 12 => hx.sto h0 h
    have hxl := fun h : k < 12 => hx.l (l := x (13 + k)) (hst h).1 (by have := hst h; omega)
    have he : k = ngA (T 5) 12 → x = ngB (ngA (T 5)) := fun e => by rw [hxe, e]; rfl
    refine y_iload_n E dX3_goesNight_108 (by rfl) ?_
    first | refine y_ald_n E dX3_goesNight_109 (by rfl) ?_ | refine y_aload_n E dX3_goesNight_109 (by rfl) ?_
    refine y_get E dX3_goesNight_110 fl_X3_13_X3 (m_o hA _ _) (by rfl) ?_
    refine y_bipush E dX3_goesNight_113 (by decide) ?_
    refine y_iald E dX3_goesNight_115 (m_r5 hA _ _) (by omega) ?_
    try simp (decide := true) only [upN_s, upN_n, upN_upN, upN_id, remT_5, remT_8]
    refine y_icmp_ge (tgt := 176) E dX3_goesNight_116 (by decide) (by omega) (by omega) (fun h116 => ?_) (fun h116 => ?_)
    · first | refine y_ald_n E dX3_goesNight_176 (by rfl) ?_ | refine y_aload_n E dX3_goesNight_176 (by rfl) ?_
      have he := he (by omega)
      have hB := ngB_all hA1 hA2 hA3
      rw [← he] at hB
      refine y_callV E dX3_goesNight_177 lk_X3_120 (m_settles hA ?_ ?_) (by rfl) (m_o hA _ _) rfl (by decide) (by omega) (by omega) rfl (Nat.le_of_ble_eq_true rfl) ?_ (fun _ _ _ h => h.elim)
      · exact hB.1
      · exact hB.2.1
      rintro _ _ ⟨rfl, rfl⟩
      try simp (decide := true) only [upN_s, upN_n, upN_upN, upN_id, remT_5, remT_8]
      refine y_return E F rfl dX3_goesNight_180 (by omega) (by omega) ⟨rfl, by rw [he]; rfl⟩
    · have hst := hst (by omega)
      have hxl := hxl (by omega)
      unfold lw at hxl
      first | refine y_ald_n E dX3_goesNight_119 (by rfl) ?_ | refine y_aload_n E dX3_goesNight_119 (by rfl) ?_
      refine y_get E dX3_goesNight_120 fl_X3_13_X3 (m_o hA _ _) (by rfl) ?_
      refine y_bipush E dX3_goesNight_123 (by decide) ?_
      refine y_iload_n E dX3_goesNight_125 (by rfl) ?_
      refine y_iadd E dX3_goesNight_126 ?_
      refine y_iald E dX3_goesNight_127 (m_r5 hA _ _) (by omega) ?_
      try simp (decide := true) only [upN_s, upN_n, upN_upN, upN_id, remT_5, remT_8]
      refine y_istore_n (j := 2) E dX3_goesNight_128 rfl (Nat.le_of_ble_eq_true rfl) ?_
      first | refine y_ald_n E dX3_goesNight_129 (by rfl) ?_ | refine y_aload_n E dX3_goesNight_129 (by rfl) ?_
      refine y_get E dX3_goesNight_130 fl_X3_13_X3 (m_o hA _ _) (by rfl) ?_
      refine y_iload_n E dX3_goesNight_133 (by rfl) ?_
      refine y_iconst E dX3_goesNight_134 ?_
      refine y_callS E dX3_goesNight_135 lk_X3_84 (m_lensAt) (by rfl) (by decide) (by omega) (by omega) rfl (Nat.le_of_ble_eq_true rfl) ?_ (fun _ _ _ h => h.elim)
      rintro _ _ ⟨rfl, rfl⟩
      refine y_dup2 E dX3_goesNight_138 rfl rfl ?_
      refine y_iald E dX3_goesNight_139 (m_r5 hA _ _) (by omega) ?_
      try simp (decide := true) only [upN_s, upN_n, upN_upN, upN_id, remT_5, remT_8]
      first | refine y_ald_n E dX3_goesNight_140 (by rfl) ?_ | refine y_aload_n E dX3_goesNight_140 (by rfl) ?_
      refine y_get E dX3_goesNight_141 fl_X3_13_X3 (m_o hA _ _) (by rfl) ?_
      refine y_iload_n E dX3_goesNight_144 (by rfl) ?_
      refine y_iconst E dX3_goesNight_145 ?_
      refine y_callS E dX3_goesNight_146 lk_X3_84 (m_lensAt) (by rfl) (by decide) (by omega) (by omega) rfl (Nat.le_of_ble_eq_true rfl) ?_ (fun _ _ _ h => h.elim)
      rintro _ _ ⟨rfl, rfl⟩
      refine y_iald E dX3_goesNight_149 (m_r5 hA _ _) (by omega) ?_
      try simp (decide := true) only [upN_s, upN_n, upN_upN, upN_id, remT_5, remT_8]
      first | refine y_ald_n E dX3_goesNight_150 (by rfl) ?_ | refine y_aload_n E dX3_goesNight_150 (by rfl) ?_
      refine y_get E dX3_goesNight_151 fl_X3_13_X3 (m_o hA _ _) (by rfl) ?_
      refine y_iload_n E dX3_goesNight_154 (by rfl) ?_
      refine y_iconst E dX3_goesNight_155 ?_
      refine y_callS E dX3_goesNight_156 lk_X3_84 (m_lensAt) (by rfl) (by decide) (by omega) (by omega) rfl (Nat.le_of_ble_eq_true rfl) ?_ (fun _ _ _ h => h.elim)
      rintro _ _ ⟨rfl, rfl⟩
      refine y_iald E dX3_goesNight_159 (m_r5 hA _ _) (by omega) ?_
      try simp (decide := true) only [upN_s, upN_n, upN_upN, upN_id, remT_5, remT_8]
      refine y_icmp_ge (tgt := 167) E dX3_goesNight_160 (by decide) (by omega) (by omega) (fun h160 => ?_) (fun h160 => ?_)
      · refine y_iconst E dX3_goesNight_167 ?_
        refine y_iadd E dX3_goesNight_168 ?_
        refine y_iast E dX3_goesNight_169 (m_r5 hA _ _) (by omega) ?_
        refine y_heap (m_w5 hA) ?_
        try simp (decide := true) only [upN_s, upN_n, upN_upN, upN_id, remT_5, remT_8]
        refine y_iinc E dX3_goesNight_170 (by rfl) ?_
        refine y_goto (tgt := 108) E dX3_goesNight_173 (by decide) ?_
        exact ih (by omega) _ _ _ (by rw [itI_s h0, ← hxe]; unfold ng2; first | rw [if_pos (by omega)] | rw [if_neg (by omega)]) (by omega) (by omega)
      · refine y_iconst E dX3_goesNight_163 ?_
        refine y_goto (tgt := 168) E dX3_goesNight_164 (by decide) ?_
        refine y_iadd E dX3_goesNight_168 ?_
        refine y_iast E dX3_goesNight_169 (m_r5 hA _ _) (by omega) ?_
        refine y_heap (m_w5 hA) ?_
        try simp (decide := true) only [upN_s, upN_n, upN_upN, upN_id, remT_5, remT_8]
        refine y_iinc E dX3_goesNight_170 (by rfl) ?_
        refine y_goto (tgt := 108) E dX3_goesNight_173 (by decide) ?_
        exact ih (by omega) _ _ _ (by rw [itI_s h0, ← hxe]; unfold ng2; first | rw [if_pos (by omega)] | rw [if_neg (by omega)]) (by omega) (by omega)
  have ph1 : ∀ i : Int, ∀ x : Int → Int, ∀ l2 l3 : Option Value, x = itI ng1 i (upI (T 5) 0 (T 5 0 + 1)) → 0 ≤ i → i ≤ T 5 10 → Y Γ Z 0 0 Q (mH A (upN T 5 x) G) 12 [some (.ref (A 0)), some (.int (iI i)), l2, l3] [] := by
    refine loopDown (T 5 10) ?_
    intro i ih x l2 l3 hxe h0 h1
    have hxa := ngA_ok hS hL i h0 (by omega)
    rw [← hxe] at hxa
    obtain ⟨hx, hxk⟩ := hxa
    have hx10 : x 10 = T 5 10 := hxk 10 (by omega) (by omega)
    have hxt := fun h : i < 8 => hx.t h0 h
    have hxf := fun h : i < 8 => hx.fog (k := tw x i 0 / 10) (by have := hxt h; omega) (by have := hxt h; omega)
    have hlit : i < T 5 10 → tw x i 4 = 1 → 0 ≤ tw x i 3 := by
      intro hi
      have e3 : tw x i 3 = tw (T 5) i 3 := hxk _ (by omega) (by omega)
      have e4 : tw x i 4 = tw (T 5) i 4 := hxk _ (by omega) (by omega)
      rw [e3, e4]
      exact hL i h0 hi
    have hxl := fun (h : i < 8) (h2 : 0 ≤ tw x i 3) => hx.l h2 (by have := hxt h; omega)
    refine y_iload_n E dX3_goesNight_12 (by rfl) ?_
    first | refine y_ald_n E dX3_goesNight_13 (by rfl) ?_ | refine y_aload_n E dX3_goesNight_13 (by rfl) ?_
    refine y_get E dX3_goesNight_14 fl_X3_13_X3 (m_o hA _ _) (by rfl) ?_
    refine y_bipush E dX3_goesNight_17 (by decide) ?_
    refine y_iald E dX3_goesNight_19 (m_r5 hA _ _) (by omega) ?_
    try simp (decide := true) only [upN_s, upN_n, upN_upN, upN_id, remT_5, remT_8]
    refine y_icmp_ge (tgt := 106) E dX3_goesNight_20 (by decide) (by omega) (by omega) (fun h20 => ?_) (fun h20 => ?_)
    · refine y_iconst E dX3_goesNight_106 ?_
      refine y_istore_n (j := 1) E dX3_goesNight_107 rfl (Nat.le_of_ble_eq_true rfl) ?_
      have e : x = ngA (T 5) := by rw [hxe, show i = T 5 10 by omega]; rfl
      exact ph2 0 x _ _ (by rw [itI_0, e]) (by omega) (by omega)
    · have hxt := hxt (by omega)
      have hxf := hxf (by omega)
      first | refine y_ald_n E dX3_goesNight_23 (by rfl) ?_ | refine y_aload_n E dX3_goesNight_23 (by rfl) ?_
      refine y_iload_n E dX3_goesNight_24 (by rfl) ?_
      refine y_callV E dX3_goesNight_25 lk_X3_109 (m_isLit hA ?_ ?_) (by rfl) (m_o hA _ _) rfl (by decide) (by omega) (by omega) rfl (Nat.le_of_ble_eq_true rfl) ?_ (fun _ _ _ h => h.elim)
      · exact hx
      · first | omega | (simp (decide := true) only [upN_s, upN_n, upN_upN, upN_id, remT_5, remT_8] <;> omega)
      rintro _ _ ⟨rfl, rfl⟩
      try simp (decide := true) only [upN_s, upN_n, upN_upN, upN_id, remT_5, remT_8]
      refine y_ifd_ne (tgt := 34) E dX3_goesNight_28 (by decide) (fun h28 => ?_) (fun h28 => ?_)
      · have hlit := hlit (by omega) h28
        have hxl := hxl (by omega) hlit
        unfold lw at hxl
        first | refine y_ald_n E dX3_goesNight_34 (by rfl) ?_ | refine y_aload_n E dX3_goesNight_34 (by rfl) ?_
        refine y_iload_n E dX3_goesNight_35 (by rfl) ?_
        refine y_iconst E dX3_goesNight_36 ?_
        refine y_callV E dX3_goesNight_37 lk_X3_81 (m_ofTower hA ?_ ?_) (by rfl) (m_o hA _ _) rfl (by decide) (by omega) (by omega) rfl (Nat.le_of_ble_eq_true rfl) ?_ (fun _ _ _ h => h.elim)
        · first | omega | (simp (decide := true) only [upN_s, upN_n, upN_upN, upN_id, remT_5, remT_8] <;> omega)
        · first | omega | (simp (decide := true) only [upN_s, upN_n, upN_upN, upN_id, remT_5, remT_8] <;> omega)
        rintro _ _ ⟨rfl, rfl⟩
        try simp (decide := true) only [upN_s, upN_n, upN_upN, upN_id, remT_5, remT_8]
        refine y_iconst E dX3_goesNight_40 ?_
        refine y_callS E dX3_goesNight_41 lk_X3_84 (m_lensAt) (by rfl) (by decide) (by omega) (by omega) rfl (Nat.le_of_ble_eq_true rfl) ?_ (fun _ _ _ h => h.elim)
        rintro _ _ ⟨rfl, rfl⟩
        refine y_istore_n (j := 2) E dX3_goesNight_44 rfl (Nat.le_of_ble_eq_true rfl) ?_
        first | refine y_ald_n E dX3_goesNight_45 (by rfl) ?_ | refine y_aload_n E dX3_goesNight_45 (by rfl) ?_
        refine y_get E dX3_goesNight_46 fl_X3_13_X3 (m_o hA _ _) (by rfl) ?_
        refine y_iconst E dX3_goesNight_49 ?_
        first | refine y_ald_n E dX3_goesNight_50 (by rfl) ?_ | refine y_aload_n E dX3_goesNight_50 (by rfl) ?_
        refine y_iload_n E dX3_goesNight_51 (by rfl) ?_
        refine y_iconst E dX3_goesNight_52 ?_
        refine y_callV E dX3_goesNight_53 lk_X3_81 (m_ofTower hA ?_ ?_) (by rfl) (m_o hA _ _) rfl (by decide) (by omega) (by omega) rfl (Nat.le_of_ble_eq_true rfl) ?_ (fun _ _ _ h => h.elim)
        · first | omega | (simp (decide := true) only [upN_s, upN_n, upN_upN, upN_id, remT_5, remT_8] <;> omega)
        · first | omega | (simp (decide := true) only [upN_s, upN_n, upN_upN, upN_id, remT_5, remT_8] <;> omega)
        rintro _ _ ⟨rfl, rfl⟩
        try simp (decide := true) only [upN_s, upN_n, upN_upN, upN_id, remT_5, remT_8]
        refine y_bipush E dX3_goesNight_56 (by decide) ?_
        refine y_idiv E dX3_goesNight_58 (by omega) (by omega) ?_
        refine y_iadd E dX3_goesNight_59 ?_
        refine y_iald E dX3_goesNight_60 (m_r5 hA _ _) (by omega) ?_
        try simp (decide := true) only [upN_s, upN_n, upN_upN, upN_id, remT_5, remT_8]
        refine y_iconst E dX3_goesNight_61 ?_
        refine y_icmp_lt (tgt := 69) E dX3_goesNight_62 (by decide) (by omega) (by omega) (fun h62 => ?_) (fun h62 => ?_)
        · refine y_iconst E dX3_goesNight_69 ?_
          refine y_istore_n (j := 3) E dX3_goesNight_70 rfl (Nat.le_of_ble_eq_true rfl) ?_
          first | refine y_ald_n E dX3_goesNight_71 (by rfl) ?_ | refine y_aload_n E dX3_goesNight_71 (by rfl) ?_
          refine y_get E dX3_goesNight_72 fl_X3_13_X3 (m_o hA _ _) (by rfl) ?_
          refine y_iload_n E dX3_goesNight_75 (by rfl) ?_
          refine y_dup2 E dX3_goesNight_76 rfl rfl ?_
          refine y_iald E dX3_goesNight_77 (m_r5 hA _ _) (by omega) ?_
          try simp (decide := true) only [upN_s, upN_n, upN_upN, upN_id, remT_5, remT_8]
          refine y_iload_n E dX3_goesNight_78 (by rfl) ?_
          first | refine y_ald_n E dX3_goesNight_79 (by rfl) ?_ | refine y_aload_n E dX3_goesNight_79 (by rfl) ?_
          refine y_get E dX3_goesNight_80 fl_X3_13_X3 (m_o hA _ _) (by rfl) ?_
          refine y_iload_n E dX3_goesNight_83 (by rfl) ?_
          refine y_iald E dX3_goesNight_84 (m_r5 hA _ _) (by omega) ?_
          try simp (decide := true) only [upN_s, upN_n, upN_upN, upN_id, remT_5, remT_8]
          refine y_icmp_ge (tgt := 92) E dX3_goesNight_85 (by decide) (by omega) (by omega) (fun h85 => ?_) (fun h85 => ?_)
          · first | refine y_ald_n E dX3_goesNight_92 (by rfl) ?_ | refine y_aload_n E dX3_goesNight_92 (by rfl) ?_
            refine y_get E dX3_goesNight_93 fl_X3_13_X3 (m_o hA _ _) (by rfl) ?_
            refine y_iload_n E dX3_goesNight_96 (by rfl) ?_
            refine y_iald E dX3_goesNight_97 (m_r5 hA _ _) (by omega) ?_
            try simp (decide := true) only [upN_s, upN_n, upN_upN, upN_id, remT_5, remT_8]
            refine y_isub E dX3_goesNight_98 ?_
            refine y_top (v' := .int (iI (max 0 (x (89 + 3 * tw x i 3 + 0) - lessS x i)))) (by congr 2; unfold lessS; omega) ?_
            refine y_iast E dX3_goesNight_99 (m_r5 hA _ _) (by omega) ?_
            refine y_heap (m_w5 hA) ?_
            try simp (decide := true) only [upN_s, upN_n, upN_upN, upN_id, remT_5, remT_8]
            refine y_iinc E dX3_goesNight_100 (by rfl) ?_
            refine y_goto (tgt := 12) E dX3_goesNight_103 (by decide) ?_
            first
              | exact ih (by omega) _ _ _ (by rw [itI_s h0, ← hxe]; unfold ng1; rw [if_pos (by omega)]) (by omega) (by omega)
              | exact ih (by omega) _ _ _ (by rw [itI_s h0, ← hxe]; unfold ng1; rw [if_neg (by omega)]) (by omega) (by omega)
          · refine y_iload_n E dX3_goesNight_88 (by rfl) ?_
            refine y_goto (tgt := 98) E dX3_goesNight_89 (by decide) ?_
            refine y_isub E dX3_goesNight_98 ?_
            refine y_top (v' := .int (iI (max 0 (x (89 + 3 * tw x i 3 + 0) - lessS x i)))) (by congr 2; unfold lessS; omega) ?_
            refine y_iast E dX3_goesNight_99 (m_r5 hA _ _) (by omega) ?_
            refine y_heap (m_w5 hA) ?_
            try simp (decide := true) only [upN_s, upN_n, upN_upN, upN_id, remT_5, remT_8]
            refine y_iinc E dX3_goesNight_100 (by rfl) ?_
            refine y_goto (tgt := 12) E dX3_goesNight_103 (by decide) ?_
            first
              | exact ih (by omega) _ _ _ (by rw [itI_s h0, ← hxe]; unfold ng1; rw [if_pos (by omega)]) (by omega) (by omega)
              | exact ih (by omega) _ _ _ (by rw [itI_s h0, ← hxe]; unfold ng1; rw [if_neg (by omega)]) (by omega) (by omega)
        · refine y_iconst E dX3_goesNight_65 ?_
          refine y_goto (tgt := 70) E dX3_goesNight_66 (by decide) ?_
          refine y_istore_n (j := 3) E dX3_goesNight_70 rfl (Nat.le_of_ble_eq_true rfl) ?_
          first | refine y_ald_n E dX3_goesNight_71 (by rfl) ?_ | refine y_aload_n E dX3_goesNight_71 (by rfl) ?_
          refine y_get E dX3_goesNight_72 fl_X3_13_X3 (m_o hA _ _) (by rfl) ?_
          refine y_iload_n E dX3_goesNight_75 (by rfl) ?_
          refine y_dup2 E dX3_goesNight_76 rfl rfl ?_
          refine y_iald E dX3_goesNight_77 (m_r5 hA _ _) (by omega) ?_
          try simp (decide := true) only [upN_s, upN_n, upN_upN, upN_id, remT_5, remT_8]
          refine y_iload_n E dX3_goesNight_78 (by rfl) ?_
          first | refine y_ald_n E dX3_goesNight_79 (by rfl) ?_ | refine y_aload_n E dX3_goesNight_79 (by rfl) ?_
          refine y_get E dX3_goesNight_80 fl_X3_13_X3 (m_o hA _ _) (by rfl) ?_
          refine y_iload_n E dX3_goesNight_83 (by rfl) ?_
          refine y_iald E dX3_goesNight_84 (m_r5 hA _ _) (by omega) ?_
          try simp (decide := true) only [upN_s, upN_n, upN_upN, upN_id, remT_5, remT_8]
          refine y_icmp_ge (tgt := 92) E dX3_goesNight_85 (by decide) (by omega) (by omega) (fun h85 => ?_) (fun h85 => ?_)
          · first | refine y_ald_n E dX3_goesNight_92 (by rfl) ?_ | refine y_aload_n E dX3_goesNight_92 (by rfl) ?_
            refine y_get E dX3_goesNight_93 fl_X3_13_X3 (m_o hA _ _) (by rfl) ?_
            refine y_iload_n E dX3_goesNight_96 (by rfl) ?_
            refine y_iald E dX3_goesNight_97 (m_r5 hA _ _) (by omega) ?_
            try simp (decide := true) only [upN_s, upN_n, upN_upN, upN_id, remT_5, remT_8]
            refine y_isub E dX3_goesNight_98 ?_
            refine y_top (v' := .int (iI (max 0 (x (89 + 3 * tw x i 3 + 0) - lessS x i)))) (by congr 2; unfold lessS; omega) ?_
            refine y_iast E dX3_goesNight_99 (m_r5 hA _ _) (by omega) ?_
            refine y_heap (m_w5 hA) ?_
            try simp (decide := true) only [upN_s, upN_n, upN_upN, upN_id, remT_5, remT_8]
            refine y_iinc E dX3_goesNight_100 (by rfl) ?_
            refine y_goto (tgt := 12) E dX3_goesNight_103 (by decide) ?_
            first
              | exact ih (by omega) _ _ _ (by rw [itI_s h0, ← hxe]; unfold ng1; rw [if_pos (by omega)]) (by omega) (by omega)
              | exact ih (by omega) _ _ _ (by rw [itI_s h0, ← hxe]; unfold ng1; rw [if_neg (by omega)]) (by omega) (by omega)
          · refine y_iload_n E dX3_goesNight_88 (by rfl) ?_
            refine y_goto (tgt := 98) E dX3_goesNight_89 (by decide) ?_
            refine y_isub E dX3_goesNight_98 ?_
            refine y_top (v' := .int (iI (max 0 (x (89 + 3 * tw x i 3 + 0) - lessS x i)))) (by congr 2; unfold lessS; omega) ?_
            refine y_iast E dX3_goesNight_99 (m_r5 hA _ _) (by omega) ?_
            refine y_heap (m_w5 hA) ?_
            try simp (decide := true) only [upN_s, upN_n, upN_upN, upN_id, remT_5, remT_8]
            refine y_iinc E dX3_goesNight_100 (by rfl) ?_
            refine y_goto (tgt := 12) E dX3_goesNight_103 (by decide) ?_
            first
              | exact ih (by omega) _ _ _ (by rw [itI_s h0, ← hxe]; unfold ng1; rw [if_pos (by omega)]) (by omega) (by omega)
              | exact ih (by omega) _ _ _ (by rw [itI_s h0, ← hxe]; unfold ng1; rw [if_neg (by omega)]) (by omega) (by omega)
      · refine y_goto (tgt := 100) E dX3_goesNight_31 (by decide) ?_
        refine y_iinc E dX3_goesNight_100 (by rfl) ?_
        refine y_goto (tgt := 12) E dX3_goesNight_103 (by decide) ?_
        first
          | exact ih (by omega) _ _ _ (by rw [itI_s h0, ← hxe]; unfold ng1; rw [if_pos (by omega)]) (by omega) (by omega)
          | exact ih (by omega) _ _ _ (by rw [itI_s h0, ← hxe]; unfold ng1; rw [if_neg (by omega)]) (by omega) (by omega)
  first | refine y_ald_n E dX3_goesNight_0 (by rfl) ?_ | refine y_aload_n E dX3_goesNight_0 (by rfl) ?_
  refine y_get E dX3_goesNight_1 fl_X3_13_X3 (m_o hA _ _) (by rfl) ?_
  refine y_iconst E dX3_goesNight_4 ?_
  refine y_dup2 E dX3_goesNight_5 rfl rfl ?_
  refine y_iald E dX3_goesNight_6 (m_r5 hA _ _) (by omega) ?_
  refine y_iconst E dX3_goesNight_7 ?_
  refine y_iadd E dX3_goesNight_8 ?_
  refine y_iast E dX3_goesNight_9 (m_r5 hA _ _) (by omega) ?_
  refine y_heap (m_w5 hA) ?_
  try simp (decide := true) only [upN_s, upN_n, upN_upN, upN_id, remT_5, remT_8]
  refine y_iconst E dX3_goesNight_10 ?_
  refine y_istore_n (j := 1) E dX3_goesNight_11 rfl (Nat.le_of_ble_eq_true rfl) ?_
  exact ph1 0 _ _ _ (itI_0 _ _).symm (by omega) (by omega)
theorem m_goesNights (hA : mA A) (hS : SH (T 5)) (hU : UT (T 5)) (hL : LT (T 5)) {n : Int} (hn : 0 ≤ n ∧ n ≤ 100) : Ct_X3_goesNights Γ 9 0 0 [.ref (A 0), .int (iI (n))] (mH A T G) (fun v G' => v = none ∧ G' = mH A (upN T 5 (ngsS n (T 5))) G) noX := by
  refine y_start (lv0 := [some (.ref (A 0)), some (.int (iI (n))), none]) (nm := "goesNights") (own := RX3) (by decide +kernel) rfl rfl (by exact Nat.le_of_ble_eq_true rfl) (by rfl) ?_
  intro Z Q E F
  have loop : ∀ i : Int, 0 ≤ i → i ≤ n → Y Γ Z 0 0 Q (mH A (upN T 5 (ngsS i (T 5))) G) 2 [some (.ref (A 0)), some (.int (iI n)), some (.int (iI i))] [] := by
    refine loopDown n ?_
    intro i ih h0 h1
    obtain ⟨a, b, c⟩ := ngs_all hS hU hL i h0
    refine y_iload_n E dX3_goesNights_2 (by rfl) ?_
    refine y_iload_n E dX3_goesNights_3 (by rfl) ?_
    refine y_icmp_ge (tgt := 17) E dX3_goesNights_4 (by decide) (by omega) (by omega) (fun h4 => ?_) (fun h4 => ?_)
    · refine y_return E F rfl dX3_goesNights_17 (by omega) (by omega) ⟨rfl, by rw [show i = n by omega]⟩
    · first | refine y_ald_n E dX3_goesNights_7 (by rfl) ?_ | refine y_aload_n E dX3_goesNights_7 (by rfl) ?_
      refine y_callV E dX3_goesNights_8 lk_X3_195 (m_goesNight hA ?_ ?_ ?_) (by rfl) (m_o hA _ _) rfl (by decide) (by omega) (by omega) rfl (Nat.le_of_ble_eq_true rfl) ?_ (fun _ _ _ h => h.elim)
      · exact a
      · exact b
      · exact c
      rintro _ _ ⟨rfl, rfl⟩
      try simp (decide := true) only [upN_s, upN_n, upN_upN, upN_id, remT_5, remT_8]
      refine y_iinc E dX3_goesNights_11 (by rfl) ?_
      refine y_goto (tgt := 2) E dX3_goesNights_14 (by decide) ?_
      rw [show ngtS (ngsS i (T 5)) = ngsS (i + 1) (T 5) from (itI_s h0).symm]
      exact ih (by omega) (by omega) (by omega)
  refine y_iconst E dX3_goesNights_0 ?_
  refine y_istore_n (j := 2) E dX3_goesNights_1 rfl (Nat.le_of_ble_eq_true rfl) ?_
  refine y_heap (show _ = mH A (upN T 5 (ngsS 0 (T 5))) G from by unfold ngsS; rw [itI_0, upN_id]) (loop 0 (by omega) (by omega))
theorem m_nights (hA : mA A) (hS : SH (T 5)) (hU : UT (T 5)) (hL : LT (T 5)) (hc : 0 ≤ T 9 0 ∧ T 9 0 ≤ 8) (hf : 0 ≤ T 10 0 ∧ T 10 0 ≤ 7) {n : Int} (hn : inR n) : Ct_X3_nights Γ 10 0 0 [.ref (A 0), .int (iI (n))] (mH A T G) (fun v G' => v = some (.int (iI ((o_nights T n).1))) ∧ G' = mH A ((o_nights T n).2) G) noX := by
  refine y_start (lv0 := [some (.ref (A 0)), some (.int (iI (n)))]) (nm := "nights") (own := RX3) (by decide +kernel) rfl rfl (by exact Nat.le_of_ble_eq_true rfl) (by rfl) ?_
  intro Z Q E F
  first | refine y_ald_n E dX3_nights_0 (by rfl) ?_ | refine y_aload_n E dX3_nights_0 (by rfl) ?_
  refine y_iconst E dX3_nights_1 ?_
  refine y_put E dX3_nights_2 fl_X3_51_X3 fw_X3_0 rfl (by rfl) (m_o hA _ _) (Nat.le_of_ble_eq_true rfl) ?_
  refine y_heap (m_p0 hA) ?_
  refine y_iload_n E dX3_nights_5 (by rfl) ?_
  refine y_iconst E dX3_nights_6 ?_
  refine y_bipush E dX3_nights_7 (by decide) ?_
  refine y_callS E dX3_nights_9 lk_X3_77 (m_isBetween ?_ ?_ ?_) (by rfl) (by decide) (by omega) (by omega) rfl (Nat.le_of_ble_eq_true rfl) ?_ (fun _ _ _ h => h.elim)
  · first | omega | (simp (decide := true) only [upN_s, upN_n, upN_upN, upN_id, remT_5, remT_8] <;> omega)
  · first | omega | (simp (decide := true) only [upN_s, upN_n, upN_upN, upN_id, remT_5, remT_8] <;> omega)
  · first | omega | (simp (decide := true) only [upN_s, upN_n, upN_upN, upN_id, remT_5, remT_8] <;> omega)
  rintro _ _ ⟨rfl, rfl⟩
  refine y_ifd_ne (tgt := 21) E dX3_nights_12 (by decide) (fun h12 => ?_) (fun h12 => ?_)
  · first | refine y_ald_n E dX3_nights_21 (by rfl) ?_ | refine y_aload_n E dX3_nights_21 (by rfl) ?_
    obtain ⟨a, b, c⟩ := ngs_all hS hU hL n (by omega)
    refine y_callV E dX3_nights_22 lk_X3_138 (m_notes hA) (by rfl) (m_o hA _ _) rfl (by decide) (by omega) (by omega) rfl (Nat.le_of_ble_eq_true rfl) ?_ (fun _ _ _ h => h.elim)
    rintro _ _ ⟨rfl, rfl⟩
    try simp (decide := true) only [upN_s, upN_n, upN_upN, upN_id, remT_5, remT_8]
    first | refine y_ald_n E dX3_nights_25 (by rfl) ?_ | refine y_aload_n E dX3_nights_25 (by rfl) ?_
    refine y_iload_n E dX3_nights_26 (by rfl) ?_
    refine y_callV E dX3_nights_27 lk_X3_198 (m_goesNights hA ?_ ?_ ?_ ?_) (by rfl) (m_o hA _ _) rfl (by decide) (by omega) (by omega) rfl (Nat.le_of_ble_eq_true rfl) ?_ (fun _ _ _ h => h.elim)
    · exact hS
    · exact hU
    · exact hL
    · omega
    rintro _ _ ⟨rfl, rfl⟩
    try simp (decide := true) only [upN_s, upN_n, upN_upN, upN_id, remT_5, remT_8]
    first | refine y_ald_n E dX3_nights_30 (by rfl) ?_ | refine y_aload_n E dX3_nights_30 (by rfl) ?_
    refine y_callV E dX3_nights_31 lk_X3_141 (m_isDone hA ?_ ?_ ?_ ?_) (by rfl) (m_o hA _ _) rfl (by decide) (by omega) (by omega) rfl (Nat.le_of_ble_eq_true rfl) ?_ (fun _ _ _ h => h.elim)
    · exact a
    · exact b
    · exact hc
    · exact hf
    rintro _ _ ⟨rfl, rfl⟩
    try simp (decide := true) only [upN_s, upN_n, upN_upN, upN_id, remT_5, remT_8]
    first | refine y_ald_n E dX3_nights_34 (by rfl) ?_ | refine y_aload_n E dX3_nights_34 (by rfl) ?_
    refine y_get E dX3_nights_35 fl_X3_13_X3 (m_o hA _ _) (by rfl) ?_
    refine y_iconst E dX3_nights_38 ?_
    refine y_iald E dX3_nights_39 (m_r5 hA _ _) (by omega) ?_
    try simp (decide := true) only [upN_s, upN_n, upN_upN, upN_id, remT_5, remT_8]
    first | refine y_ald_n E dX3_nights_40 (by rfl) ?_ | refine y_aload_n E dX3_nights_40 (by rfl) ?_
    refine y_get E dX3_nights_41 fl_X3_13_X3 (m_o hA _ _) (by rfl) ?_
    refine y_iconst E dX3_nights_44 ?_
    refine y_iald E dX3_nights_45 (m_r5 hA _ _) (by omega) ?_
    try simp (decide := true) only [upN_s, upN_n, upN_upN, upN_id, remT_5, remT_8]
    refine y_iadd E dX3_nights_46 ?_
    first | refine y_ald_n E dX3_nights_47 (by rfl) ?_ | refine y_aload_n E dX3_nights_47 (by rfl) ?_
    refine y_get E dX3_nights_48 fl_X3_22_X3 (m_o hA _ _) (by rfl) ?_
    refine y_iconst E dX3_nights_51 ?_
    refine y_iald E dX3_nights_52 (m_r8 hA _ _) (by omega) ?_
    try simp (decide := true) only [upN_s, upN_n, upN_upN, upN_id, remT_5, remT_8]
    refine y_isub E dX3_nights_53 ?_
    first | refine y_ald_n E dX3_nights_54 (by rfl) ?_ | refine y_aload_n E dX3_nights_54 (by rfl) ?_
    refine y_get E dX3_nights_55 fl_X3_22_X3 (m_o hA _ _) (by rfl) ?_
    refine y_iconst E dX3_nights_58 ?_
    refine y_iald E dX3_nights_59 (m_r8 hA _ _) (by omega) ?_
    try simp (decide := true) only [upN_s, upN_n, upN_upN, upN_id, remT_5, remT_8]
    refine y_isub E dX3_nights_60 ?_
    rw [cpy_eq (T 5) (T 8) 1 (by omega) (by omega), cpy_eq (T 5) (T 8) 2 (by omega) (by omega)]
    refine y_ireturn E F rfl rfl dX3_nights_61 (by omega) (by omega) (by rw [show o_nights T n = (stlS (ngsS n (T 5)) 1 + stlS (ngsS n (T 5)) 2 - T 5 1 - T 5 2, chgT T (ngsS n (T 5))) from by unfold o_nights; rw [if_neg (by rw [dB_t h12]; decide)]]; exact ⟨rfl, rfl⟩)
  · first | refine y_ald_n E dX3_nights_15 (by rfl) ?_ | refine y_aload_n E dX3_nights_15 (by rfl) ?_
    refine y_iconst E dX3_nights_16 ?_
    refine y_callV E dX3_nights_17 lk_X3_63 (m_fails hA) (by rfl) (m_o hA _ _) rfl (by decide) (by omega) (by omega) rfl (Nat.le_of_ble_eq_true rfl) ?_ (fun _ _ _ h => h.elim)
    rintro _ _ ⟨rfl, rfl⟩
    try simp (decide := true) only [upN_s, upN_n, upN_upN, upN_id, remT_5, remT_8]
    refine y_ireturn E F rfl rfl dX3_nights_20 (by omega) (by omega) (by rw [show o_nights T n = (0, failT T 1) from by unfold o_nights; rw [if_pos (dB_f h12)]]; exact ⟨rfl, rfl⟩)
theorem m_scrap (hA : mA A) (hS : SH (T 5)) (hU : UT (T 5)) (hc : 0 ≤ T 9 0 ∧ T 9 0 ≤ 8) (hf : 0 ≤ T 10 0 ∧ T 10 0 ≤ 7) : Ct_X3_scrap Γ 9 0 0 [.ref (A 0)] (mH A T G) (fun v G' => v = some (.int (iI ((o_scrap T).1))) ∧ G' = mH A ((o_scrap T).2) G) noX := by
  refine y_start (lv0 := [some (.ref (A 0)), none, none, none]) (nm := "scrap") (own := RX3) (by decide +kernel) rfl rfl (by exact Nat.le_of_ble_eq_true rfl) (by rfl) ?_
  intro Z Q E F
  have loop : ∀ (f : Nat) (k n : Int) (x : Int → Int) (l3 : Option Value), SH x → UT x → 0 ≤ k → k ≤ x 12 → x 12 - k ≤ f → scrF f k x n = scrS (T 5) → Y Γ Z 0 0 Q (mH A (upN (upN (upN T 0 (fun _ => 0)) 8 (cpy (T 5) (T 8) 0 128)) 5 x) G) 13 [some (.ref (A 0)), some (.int (iI n)), some (.int (iI k)), l3] [] := by
    intro f
    induction f with
    | zero =>
      intro k n x l3 hx hu h0 h1 h2 hfin
      have hns := hx.ns
      have hfin : (n, x) = scrS (T 5) := hfin
      refine y_iload_n E dX3_scrap_13 (by rfl) ?_
      first | refine y_ald_n E dX3_scrap_14 (by rfl) ?_ | refine y_aload_n E dX3_scrap_14 (by rfl) ?_
      refine y_get E dX3_scrap_15 fl_X3_13_X3 (m_o hA _ _) (by rfl) ?_
      refine y_bipush E dX3_scrap_18 (by decide) ?_
      refine y_iald E dX3_scrap_20 (m_r5 hA _ _) (by omega) ?_
      try simp (decide := true) only [upN_s, upN_n, upN_upN, upN_id, remT_5, remT_8]
      refine y_icmp_ge (tgt := 77) E dX3_scrap_21 (by decide) (by omega) (by omega) (fun h21 => ?_) (fun h21 => ?_)
      · first | refine y_ald_n E dX3_scrap_77 (by rfl) ?_ | refine y_aload_n E dX3_scrap_77 (by rfl) ?_
        refine y_callV E dX3_scrap_78 lk_X3_141 (m_isDone hA ?_ ?_ ?_ ?_) (by rfl) (m_o hA _ _) rfl (by decide) (by omega) (by omega) rfl (Nat.le_of_ble_eq_true rfl) ?_ (fun _ _ _ h => h.elim)
        · exact hx
        · exact hu
        · exact hc
        · exact hf
        rintro _ _ ⟨rfl, rfl⟩
        try simp (decide := true) only [upN_s, upN_n, upN_upN, upN_id, remT_5, remT_8]
        refine y_iload_n E dX3_scrap_81 (by rfl) ?_
        refine y_ireturn E F rfl rfl dX3_scrap_82 (by omega) (by omega) (by rw [show o_scrap T = (n, chgT T x) from by unfold o_scrap; rw [← hfin]]; exact ⟨rfl, rfl⟩)
      · exfalso
        omega
    | succ f ih =>
      intro k n x l3 hx hu h0 h1 h2 hfin
      have hns := hx.ns
      have hst := fun h : k < 12 => hx.sto h0 h
      have hxl := fun h : k < 12 => hx.l (l := x (13 + k)) (hst h).1 (by have := hst h; omega)
      have hs1 := fun h : k < x 12 => scr1_ok hx hu ⟨h0, h⟩
      simp only [scrF] at hfin
      refine y_iload_n E dX3_scrap_13 (by rfl) ?_
      first | refine y_ald_n E dX3_scrap_14 (by rfl) ?_ | refine y_aload_n E dX3_scrap_14 (by rfl) ?_
      refine y_get E dX3_scrap_15 fl_X3_13_X3 (m_o hA _ _) (by rfl) ?_
      refine y_bipush E dX3_scrap_18 (by decide) ?_
      refine y_iald E dX3_scrap_20 (m_r5 hA _ _) (by omega) ?_
      try simp (decide := true) only [upN_s, upN_n, upN_upN, upN_id, remT_5, remT_8]
      refine y_icmp_ge (tgt := 77) E dX3_scrap_21 (by decide) (by omega) (by omega) (fun h21 => ?_) (fun h21 => ?_)
      · first | refine y_ald_n E dX3_scrap_77 (by rfl) ?_ | refine y_aload_n E dX3_scrap_77 (by rfl) ?_
        refine y_callV E dX3_scrap_78 lk_X3_141 (m_isDone hA ?_ ?_ ?_ ?_) (by rfl) (m_o hA _ _) rfl (by decide) (by omega) (by omega) rfl (Nat.le_of_ble_eq_true rfl) ?_ (fun _ _ _ h => h.elim)
        · exact hx
        · exact hu
        · exact hc
        · exact hf
        rintro _ _ ⟨rfl, rfl⟩
        try simp (decide := true) only [upN_s, upN_n, upN_upN, upN_id, remT_5, remT_8]
        refine y_iload_n E dX3_scrap_81 (by rfl) ?_
        refine y_ireturn E F rfl rfl dX3_scrap_82 (by omega) (by omega) (by rw [if_neg (by omega)] at hfin; rw [show o_scrap T = (n, chgT T x) from by unfold o_scrap; rw [← hfin]]; exact ⟨rfl, rfl⟩)
      · have hst := hst (by omega)
        have hxl := hxl (by omega)
        unfold lw at hxl
        have hs1 := hs1 (by omega)
        rw [if_pos (by omega)] at hfin
        first | refine y_ald_n E dX3_scrap_24 (by rfl) ?_ | refine y_aload_n E dX3_scrap_24 (by rfl) ?_
        refine y_get E dX3_scrap_25 fl_X3_13_X3 (m_o hA _ _) (by rfl) ?_
        refine y_bipush E dX3_scrap_28 (by decide) ?_
        refine y_iload_n E dX3_scrap_30 (by rfl) ?_
        refine y_iadd E dX3_scrap_31 ?_
        refine y_iald E dX3_scrap_32 (m_r5 hA _ _) (by omega) ?_
        try simp (decide := true) only [upN_s, upN_n, upN_upN, upN_id, remT_5, remT_8]
        refine y_istore_n (j := 3) E dX3_scrap_33 rfl (Nat.le_of_ble_eq_true rfl) ?_
        first | refine y_ald_n E dX3_scrap_34 (by rfl) ?_ | refine y_aload_n E dX3_scrap_34 (by rfl) ?_
        refine y_get E dX3_scrap_35 fl_X3_13_X3 (m_o hA _ _) (by rfl) ?_
        refine y_iload_n E dX3_scrap_38 (by rfl) ?_
        refine y_iconst E dX3_scrap_39 ?_
        refine y_callS E dX3_scrap_40 lk_X3_84 (m_lensAt) (by rfl) (by decide) (by omega) (by omega) rfl (Nat.le_of_ble_eq_true rfl) ?_ (fun _ _ _ h => h.elim)
        rintro _ _ ⟨rfl, rfl⟩
        refine y_iald E dX3_scrap_43 (m_r5 hA _ _) (by omega) ?_
        try simp (decide := true) only [upN_s, upN_n, upN_upN, upN_id, remT_5, remT_8]
        refine y_iconst E dX3_scrap_44 ?_
        refine y_icmp_lt (tgt := 54) E dX3_scrap_45 (by decide) (by omega) (by omega) (fun h45 => ?_) (fun h45 => ?_)
        · first | refine y_ald_n E dX3_scrap_54 (by rfl) ?_ | refine y_aload_n E dX3_scrap_54 (by rfl) ?_
          refine y_iload_n E dX3_scrap_55 (by rfl) ?_
          refine y_callV E dX3_scrap_56 lk_X3_161 (m_leavesStore hA ?_ ?_) (by rfl) (m_o hA _ _) rfl (by decide) (by omega) (by omega) rfl (Nat.le_of_ble_eq_true rfl) ?_ (fun _ _ _ h => h.elim)
          · exact ⟨h0, by show k < x 12; omega⟩
          · exact hns.2
          rintro _ _ ⟨rfl, rfl⟩
          try simp (decide := true) only [upN_s, upN_n, upN_upN, upN_id, remT_5, remT_8]
          first | refine y_ald_n E dX3_scrap_59 (by rfl) ?_ | refine y_aload_n E dX3_scrap_59 (by rfl) ?_
          refine y_get E dX3_scrap_60 fl_X3_13_X3 (m_o hA _ _) (by rfl) ?_
          refine y_iload_n E dX3_scrap_63 (by rfl) ?_
          refine y_iconst E dX3_scrap_64 ?_
          refine y_callS E dX3_scrap_65 lk_X3_84 (m_lensAt) (by rfl) (by decide) (by omega) (by omega) rfl (Nat.le_of_ble_eq_true rfl) ?_ (fun _ _ _ h => h.elim)
          rintro _ _ ⟨rfl, rfl⟩
          refine y_bipush E dX3_scrap_68 (by decide) ?_
          refine y_iast E dX3_scrap_70 (m_r5 hA _ _) (by omega) ?_
          refine y_heap (m_w5 hA) ?_
          try simp (decide := true) only [upN_s, upN_n, upN_upN, upN_id, remT_5, remT_8]
          refine y_iinc E dX3_scrap_71 (by rfl) ?_
          refine y_goto (tgt := 13) E dX3_scrap_74 (by decide) ?_
          first
            | exact ih _ _ _ _ hx hu (by omega) (by omega) (by omega) (by rw [if_pos (by omega)] at hfin; exact hfin)
            | exact ih _ _ (scr1 x k) _ hs1.1 hs1.2.1 h0 (by omega) (by omega) (by rw [if_neg (by omega)] at hfin; exact hfin)
        · refine y_iinc E dX3_scrap_48 (by rfl) ?_
          refine y_goto (tgt := 13) E dX3_scrap_51 (by decide) ?_
          first
            | exact ih _ _ _ _ hx hu (by omega) (by omega) (by omega) (by rw [if_pos (by omega)] at hfin; exact hfin)
            | exact ih _ _ (scr1 x k) _ hs1.1 hs1.2.1 h0 (by omega) (by omega) (by rw [if_neg (by omega)] at hfin; exact hfin)
  have hns := hS.ns
  first | refine y_ald_n E dX3_scrap_0 (by rfl) ?_ | refine y_aload_n E dX3_scrap_0 (by rfl) ?_
  refine y_iconst E dX3_scrap_1 ?_
  refine y_put E dX3_scrap_2 fl_X3_51_X3 fw_X3_0 rfl (by rfl) (m_o hA _ _) (Nat.le_of_ble_eq_true rfl) ?_
  refine y_heap (m_p0 hA) ?_
  first | refine y_ald_n E dX3_scrap_5 (by rfl) ?_ | refine y_aload_n E dX3_scrap_5 (by rfl) ?_
  refine y_callV E dX3_scrap_6 lk_X3_138 (m_notes hA) (by rfl) (m_o hA _ _) rfl (by decide) (by omega) (by omega) rfl (Nat.le_of_ble_eq_true rfl) ?_ (fun _ _ _ h => h.elim)
  rintro _ _ ⟨rfl, rfl⟩
  try simp (decide := true) only [upN_s, upN_n, upN_upN, upN_id, remT_5, remT_8]
  refine y_iconst E dX3_scrap_9 ?_
  refine y_istore_n (j := 1) E dX3_scrap_10 rfl (Nat.le_of_ble_eq_true rfl) ?_
  refine y_iconst E dX3_scrap_11 ?_
  refine y_istore_n (j := 2) E dX3_scrap_12 rfl (Nat.le_of_ble_eq_true rfl) ?_
  refine y_heap (show _ = mH A (upN (upN (upN T 0 (fun _ => 0)) 8 (cpy (T 5) (T 8) 0 128)) 5 (T 5)) G from ?_) (loop 12 0 0 (T 5) _ hS hU (by omega) (by omega) (by omega) (scrS_e _).symm)
  exact congrArg (fun T => mH A T G) (upN_id (upN (upN T 0 (fun _ => 0)) 8 (cpy (T 5) (T 8) 0 128)) 5).symm
end Tw8
