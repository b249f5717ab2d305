/-! ===== the component: what is asked (3) ===== -/
section Mq
variable {w : Int → Int}
theorem cF_mono (hS : SH w) {a : Int} (ha : 0 ≤ a) : ∀ n : Nat, a + n ≤ 61 → cF w a ≤ cF w (a + n)
  | 0, _ => by rw [show a + ((0 : Nat) : Int) = a by omega]; exact Int.le_refl _
  | n + 1, h => by
    have ih := cF_mono hS ha n (by omega)
    rw [show a + ((n + 1 : Nat) : Int) = (a + n) + 1 by omega, cF_s (by omega)]
    have := hS.fog (k := (a + n) / 10) (by omega) (by omega)
    omega
theorem cF_le (hS : SH w) {a b : Int} (ha : 0 ≤ a) (hab : a ≤ b) (hb : b ≤ 61) : cF w a ≤ cF w b := by
  have := cF_mono hS ha (b - a).toNat (by omega)
  rw [show a + (((b - a).toNat : Nat) : Int) = b by omega] at this
  exact this
theorem cost_own (a : Int) : costS w a a = 0 := by unfold costS; rw [if_neg (by omega)]; omega
theorem rch_own (hS : SH w) {t : Int} (ht : 0 ≤ t ∧ t < 8) (h3 : 0 ≤ tw w t 3) : rchP w t (tw w t 0) := by
  have hp := hS.pow ht.1 ht.2
  refine ⟨h3, Or.inl rfl, ?_⟩
  rw [cost_own]
  unfold powS at hp ⊢
  rw [if_neg (by omega)] at hp ⊢
  have := hS.t ht.1 ht.2
  have := hS.l (l := tw w t 3) h3 (by omega)
  omega
/-- what lies between is reached, too -/
theorem rch_up (hS : SH w) {t p q : Int} (ht : 0 ≤ t ∧ t < 8) (hp : tw w t 0 < p) (hpq : p ≤ q) (hq : q ≤ 60) (h : rchP w t q) : rchP w t p := by
  have hSt := hS.t ht.1 ht.2
  obtain ⟨h1, h2, h3⟩ := h
  refine ⟨h1, by omega, ?_⟩
  have := cF_le hS (a := p + 1) (b := q + 1) (by omega) (by omega) (by omega)
  unfold costS at h3 ⊢
  rw [if_pos (by omega)] at h3 ⊢
  omega
theorem rch_dn (hS : SH w) {t p q : Int} (ht : 0 ≤ t ∧ t < 8) (hq : 0 ≤ q) (hpq : q ≤ p) (hp : p < tw w t 0) (h : rchP w t q) : rchP w t p := by
  have hSt := hS.t ht.1 ht.2
  obtain ⟨h1, h2, h3⟩ := h
  refine ⟨h1, by omega, ?_⟩
  have := cF_le hS (a := q) (b := p) (by omega) (by omega) (by omega)
  unfold costS at h3 ⊢
  rw [if_neg (by omega)] at h3 ⊢
  omega
theorem far_top (hS : SH w) {t : Int} (ht : 0 ≤ t ∧ t < 8) (h3 : 0 ≤ tw w t 3) : (0 ≤ farUS w t ∧ farUS w t ≤ 60) ∧ rchP w t (farUS w t) ∧ ∀ q, farUS w t < q → q ≤ 60 → ¬ rchP w t q := by
  have hSt := hS.t ht.1 ht.2
  obtain ⟨h1, h2, h4, h5⟩ := farUS_ok (w := w) (t := t) (by omega)
  refine ⟨⟨by omega, h2⟩, ?_, fun q q1 q2 q3 => h5 ⟨by omega, rch_up hS ht (by omega) (by omega) q2 q3⟩⟩
  by_cases e : farUS w t = tw w t 0
  · rw [e]
    exact rch_own hS ht h3
  · exact h4 _ (by omega) (Int.le_refl _)
theorem far_bot (hS : SH w) {t : Int} (ht : 0 ≤ t ∧ t < 8) (h3 : 0 ≤ tw w t 3) : (0 ≤ farDS w t ∧ farDS w t ≤ 60) ∧ rchP w t (farDS w t) ∧ ∀ q, 0 ≤ q → q < farDS w t → ¬ rchP w t q := by
  have hSt := hS.t ht.1 ht.2
  obtain ⟨h1, h2, h4, h5⟩ := farDS_ok (w := w) (t := t) (by omega)
  refine ⟨⟨h1, by omega⟩, ?_, fun q q1 q2 q3 => h5 ⟨by omega, rch_dn hS ht q1 (by omega) (by omega) q3⟩⟩
  by_cases e : farDS w t = tw w t 0
  · rw [e]
    exact rch_own hS ht h3
  · exact h4 _ (Int.le_refl _) (by omega)
end Mq
section X1m
variable {Γ : yG} {G : yH} {N x : Nat} {C : CF} {I : ID} {S : SA} {T : Nat → Int → Int} {st : Nat} {t0 : yT} {hc fp : Int} {w : Int → Int}
set_option maxHeartbeats 4000000
theorem c_X1_farthest (hB : gB Γ G) (hC : isC Γ G N x C I S T) (hS : SH (T 5)) (hO : gOK G) (hL : LSW (T 5)) {t h : Int} (ht : inR t) (hh : h = 0 ∨ h = 1) : Ct_X1_farthest Γ 6 3 10 [.ref x, .int (iI t), .int (iI h)] (G) (fun v G' => ansI v (q_farthest (T 5) t h) ∧ G' = G) (fun E G' => xs [eI, eN] (q_farthest (T 5) t h).1 E ∧ G' = G) := by
  refine y_start (lv0 := [some (.ref x), some (.int (iI t)), some (.int (iI h)), none]) (nm := "farthest") (own := RX1) (by decide +kernel) rfl rfl (by exact Nat.le_of_ble_eq_true rfl) (by rfl) ?_
  intro Z Q E F
  have hx := hC.o
  have hI := hC.s
  have hst := hI.1
  have hn := hS.nt
  obtain ⟨w, hw⟩ : ∃ w, w = T 5 := ⟨_, rfl⟩
  rw [← hw] at hI hst hn hS ⊢
  rw [← hw] at hL
  have no : ¬ (0 ≤ t ∧ t ≤ w 10 - 1) → q_farthest w t h = (1, 0) := fun h => if_pos h
  have no2 : 0 ≤ t ∧ t ≤ w 10 - 1 → tw w t 3 < 0 → q_farthest w t h = (2, 0) := fun a b => by unfold q_farthest; rw [if_neg (fun q => q a), if_pos b]
  have yd : 0 ≤ t ∧ t ≤ w 10 - 1 → ¬ tw w t 3 < 0 → h = 0 → q_farthest w t h = (0, farDS w t) := fun a b c => by unfold q_farthest; rw [if_neg (fun q => q a), if_neg b, if_pos c]
  have yu : 0 ≤ t ∧ t ≤ w 10 - 1 → ¬ tw w t 3 < 0 → h ≠ 0 → q_farthest w t h = (0, farUS w t) := fun a b c => by unfold q_farthest; rw [if_neg (fun q => q a), if_neg b, if_neg c]
  by_cases h9 : (0 ≤ t ∧ t ≤ w 10 - 1) ∧ ¬ tw w t 3 < 0
  · have htw := isST_t hI (t := t.toNat) (by omega)
    unfold twX at htw
    rw [show ((t.toNat : Nat) : Int) = t by omega, lnO_s (by omega)] at htw
    unfold twE at htw
    have hft := far_top hS (t := t) (by omega) (by omega)
    have hfb := far_bot hS (t := t) (by omega) (by omega)
    first | refine y_ald_n E dX1_farthest_0 (by rfl) ?_ | refine y_aload_n E dX1_farthest_0 (by rfl) ?_
    refine y_iload_n E dX1_farthest_1 (by rfl) ?_
    refine y_callV E dX1_farthest_2 lk_X1_177 (c_X1_isTower hx hI hS ht) (by rfl) (hx) rfl (by decide) (by omega) (by omega) rfl (Nat.le_of_ble_eq_true rfl) ?_ (fun _ _ _ h => h.elim)
    rintro _ _ ⟨rfl, hG9⟩
    rw [hG9]
    clear hG9
    refine y_callS E dX1_farthest_5 lk_X1_122 (c_X1_checkIndex_b) (by rfl) (by decide) (by omega) (by omega) rfl (Nat.le_of_ble_eq_true rfl) ?_ ?_
    swap
    · rintro _ _ _ ⟨rfl, h5, rfl⟩
      exact y_xout E F (by omega) (by omega) (⟨xs_0 (okP (no h5)).1, rfl⟩)
    rintro _ _ ⟨rfl, h5, rfl⟩
    first | refine y_ald_n E dX1_farthest_8 (by rfl) ?_ | refine y_aload_n E dX1_farthest_8 (by rfl) ?_
    refine y_iload_n E dX1_farthest_9 (by rfl) ?_
    refine y_callV E dX1_farthest_10 lk_X1_189 (c_X1_at hx hI hS (t := t) (by omega) (by omega)) (by rfl) (hx) rfl (by decide) (by omega) (by omega) rfl (Nat.le_of_ble_eq_true rfl) ?_ (fun _ _ _ h => h.elim)
    rintro _ _ ⟨rfl, hG9⟩
    rw [hG9]
    clear hG9
    refine y_getN E dX1_farthest_13 fl_X1_250_X6 (htw) (by rfl) ?_
    refine y_ifnull_r E dX1_farthest_16 ?_
    refine y_iconst E dX1_farthest_19 ?_
    refine y_goto (tgt := 24) E dX1_farthest_20 (by decide) ?_
    refine y_callS E dX1_farthest_24 lk_X1_286 (c_X1_checkElement_t) (by rfl) (by decide) (by omega) (by omega) rfl (Nat.le_of_ble_eq_true rfl) ?_ (fun _ _ _ h => h.elim)
    rintro _ _ ⟨rfl, rfl⟩
    first | refine y_ald_n E dX1_farthest_27 (by rfl) ?_ | refine y_aload_n E dX1_farthest_27 (by rfl) ?_
    refine y_get E dX1_farthest_28 fl_X1_10_X1 (hx) (by rfl) ?_
    first | refine y_ald_n E dX1_farthest_31 (by rfl) ?_ | refine y_aload_n E dX1_farthest_31 (by rfl) ?_
    refine y_iload_n E dX1_farthest_32 (by rfl) ?_
    refine y_callV E dX1_farthest_33 lk_X1_189 (c_X1_at hx hI hS (t := t) (by omega) (by omega)) (by rfl) (hx) rfl (by decide) (by omega) (by omega) rfl (Nat.le_of_ble_eq_true rfl) ?_ (fun _ _ _ h => h.elim)
    rintro _ _ ⟨rfl, hG9⟩
    rw [hG9]
    clear hG9
    refine y_callV E dX1_farthest_36 lk_X1_289 (c_X2_reached hB hI hS hL (t := t.toNat) (0, 98) hO.1 (by omega)) (by rfl) (hst) rfl (by decide) (by omega) (by omega) rfl (Nat.le_of_ble_eq_true rfl) ?_ (fun _ _ _ h => h.elim)
    rintro _ G1 ⟨b, rfl, ⟨P, hP, hb⟩, hE, -⟩
    obtain ⟨fsb, hbc⟩ := hb.c
    first | refine y_ast_n (j := 3) E dX1_farthest_39 rfl (Nat.le_of_ble_eq_true rfl) ?_ | refine y_astore_n (j := 3) E dX1_farthest_39 rfl (Nat.le_of_ble_eq_true rfl) ?_ | refine y_astore_n (j := 3) (r := none) E dX1_farthest_39 rfl (Nat.le_of_ble_eq_true rfl) ?_
    refine y_iload_n E dX1_farthest_40 (by rfl) ?_
    refine y_if_eq (tgt := 53) E dX1_farthest_41 (by decide) (by omega) (fun h41 => ?_) (fun h41 => ?_)
    · first | refine y_ald_n E dX1_farthest_53 (by rfl) ?_ | refine y_aload_n E dX1_farthest_53 (by rfl) ?_
      refine y_iconst E dX1_farthest_54 ?_
      refine y_callV E dX1_farthest_55 lk_X1_298 (c_J37_nextSetBit hb (m := (farDS w t).toNat) (by omega) ?_ ?_) (by rfl) (hbc) rfl (by decide) (by omega) (by omega) rfl (Nat.le_of_ble_eq_true rfl) ?_ (fun _ _ _ h => h.elim)
      · (by rw [hP _ (by omega)]; unfold rchB; rw [show (((farDS w t).toNat : Nat) : Int) = farDS w t by omega, show ((t.toNat : Nat) : Int) = t by omega]; exact dB_t hfb.2.1)
      · (fun j j0 => by rw [hP _ (by omega)]; unfold rchB; rw [show ((t.toNat : Nat) : Int) = t by omega]; exact dB_f (hfb.2.2 j (by omega) (by omega)))
      rintro _ _ ⟨rfl, hG9⟩
      rw [hG9]
      clear hG9
      refine y_forget hE ?_
      refine y_ireturn E F rfl rfl dX1_farthest_58 (by omega) (by omega) ⟨ansI_i (by first | (rw [yd h5 h9.2 (by omega)]; congr 1; omega) | (rw [yu h5 h9.2 (by omega)]; congr 1; omega)), rfl⟩
    · first | refine y_ald_n E dX1_farthest_44 (by rfl) ?_ | refine y_aload_n E dX1_farthest_44 (by rfl) ?_
      refine y_callV E dX1_farthest_45 lk_X1_293 (c_J37_length hb (m := (farUS w t).toNat) (by omega) ?_ ?_) (by rfl) (hbc) rfl (by decide) (by omega) (by omega) rfl (Nat.le_of_ble_eq_true rfl) ?_ (fun _ _ _ h => h.elim)
      · (by rw [hP _ (by omega)]; unfold rchB; rw [show (((farUS w t).toNat : Nat) : Int) = farUS w t by omega, show ((t.toNat : Nat) : Int) = t by omega]; exact dB_t hft.2.1)
      · (fun j j0 j1 => by rw [hP _ (by omega)]; unfold rchB; rw [show ((t.toNat : Nat) : Int) = t by omega]; exact dB_f (hft.2.2 j (by omega) (by omega)))
      rintro _ _ ⟨rfl, hG9⟩
      rw [hG9]
      clear hG9
      refine y_iconst E dX1_farthest_48 ?_
      refine y_isub E dX1_farthest_49 ?_
      refine y_goto (tgt := 58) E dX1_farthest_50 (by decide) ?_
      refine y_forget hE ?_
      refine y_ireturn E F rfl rfl dX1_farthest_58 (by omega) (by omega) ⟨ansI_i (by first | (rw [yd h5 h9.2 (by omega)]; congr 1; omega) | (rw [yu h5 h9.2 (by omega)]; congr 1; omega)), rfl⟩
  · by_cases h8 : 0 ≤ t ∧ t ≤ w 10 - 1
    · have htw := isST_t hI (t := t.toNat) (by omega)
      unfold twX at htw
      rw [show ((t.toNat : Nat) : Int) = t by omega, lnO_n (by omega)] at htw
      unfold twE at htw
      first | refine y_ald_n E dX1_farthest_0 (by rfl) ?_ | refine y_aload_n E dX1_farthest_0 (by rfl) ?_
      refine y_iload_n E dX1_farthest_1 (by rfl) ?_
      refine y_callV E dX1_farthest_2 lk_X1_177 (c_X1_isTower hx hI hS ht) (by rfl) (hx) rfl (by decide) (by omega) (by omega) rfl (Nat.le_of_ble_eq_true rfl) ?_ (fun _ _ _ h => h.elim)
      rintro _ _ ⟨rfl, hG9⟩
      rw [hG9]
      clear hG9
      refine y_callS E dX1_farthest_5 lk_X1_122 (c_X1_checkIndex_b) (by rfl) (by decide) (by omega) (by omega) rfl (Nat.le_of_ble_eq_true rfl) ?_ ?_
      swap
      · rintro _ _ _ ⟨rfl, h5, rfl⟩
        exact y_xout E F (by omega) (by omega) (⟨xs_0 (okP (no h5)).1, rfl⟩)
      rintro _ _ ⟨rfl, h5, rfl⟩
      first | refine y_ald_n E dX1_farthest_8 (by rfl) ?_ | refine y_aload_n E dX1_farthest_8 (by rfl) ?_
      refine y_iload_n E dX1_farthest_9 (by rfl) ?_
      refine y_callV E dX1_farthest_10 lk_X1_189 (c_X1_at hx hI hS (t := t) (by omega) (by omega)) (by rfl) (hx) rfl (by decide) (by omega) (by omega) rfl (Nat.le_of_ble_eq_true rfl) ?_ (fun _ _ _ h => h.elim)
      rintro _ _ ⟨rfl, hG9⟩
      rw [hG9]
      clear hG9
      refine y_getN E dX1_farthest_13 fl_X1_250_X6 (htw) (by rfl) ?_
      refine y_ifnull_n (tgt := 23) E dX1_farthest_16 (by decide) ?_
      refine y_iconst E dX1_farthest_23 ?_
      refine y_callS E dX1_farthest_24 lk_X1_286 (c_X1_checkElement_f) (by rfl) (by decide) (by omega) (by omega) rfl (Nat.le_of_ble_eq_true rfl) (fun _ _ h => h.elim) ?_
      rintro _ _ _ ⟨rfl, rfl⟩
      exact y_xout E F (by omega) (by omega) (⟨xs_1 (okP (no2 h8 (by omega))).1, rfl⟩)
    · first | refine y_ald_n E dX1_farthest_0 (by rfl) ?_ | refine y_aload_n E dX1_farthest_0 (by rfl) ?_
      refine y_iload_n E dX1_farthest_1 (by rfl) ?_
      refine y_callV E dX1_farthest_2 lk_X1_177 (c_X1_isTower hx hI hS ht) (by rfl) (hx) rfl (by decide) (by omega) (by omega) rfl (Nat.le_of_ble_eq_true rfl) ?_ (fun _ _ _ h => h.elim)
      rintro _ _ ⟨rfl, hG9⟩
      rw [hG9]
      clear hG9
      refine y_callS E dX1_farthest_5 lk_X1_122 (c_X1_checkIndex_b) (by rfl) (by decide) (by omega) (by omega) rfl (Nat.le_of_ble_eq_true rfl) ?_ ?_
      swap
      · rintro _ _ _ ⟨rfl, h5, rfl⟩
        exact y_xout E F (by omega) (by omega) (⟨xs_0 (okP (no h5)).1, rfl⟩)
      rintro _ _ ⟨rfl, h5, rfl⟩
      exact absurd h5 h8
theorem c_X1_unwatchedAgain (hB : gB Γ G) (hC : isC Γ G N x C I S T) (hS : SH (T 5)) (hO : gOK G) (hL : LSW (T 5)) : Ct_X1_unwatchedAgain Γ 5 3 8 [.ref x] (G) (fun v G' => v = some (.int (iI (sumI (fun p => b2i (dB (¬ strP (T 5) p))) 61))) ∧ G' = G) (noX) := by
  refine y_start (lv0 := [some (.ref x), none, none, none]) (nm := "unwatchedAgain") (own := RX1) (by decide +kernel) rfl rfl (by exact Nat.le_of_ble_eq_true rfl) (by rfl) ?_
  intro Z Q E F
  have hx := hC.o
  have hI := hC.s
  have hst := hI.1
  have hn := hS.nt
  obtain ⟨w, hw⟩ : ∃ w, w = T 5 := ⟨_, rfl⟩
  rw [← hw] at hI hst hn hS ⊢
  rw [← hw] at hL
  have hal := hI.2.1
  have hlen := twL_len S w
  obtain ⟨fal, hac⟩ := hal.c
  have loop : ∀ b it, G it = none → ∀ i : Nat, ∀ (G1 : yH) (P : Nat → Bool) (l3 : Option Value), gExt G G1 → isBS G1 (0, 98) b P → isIT Γ G1 it (sTl S) (I.1, 1) (twL S w) i → (i : Int) ≤ w 10 → (∀ q : Nat, q < 61 → (P q = true ↔ ∃ t : Int, 0 ≤ t ∧ t < i ∧ tw w t 4 = 1 ∧ farDS w t ≤ q ∧ (q : Int) ≤ farUS w t)) → Y Γ Z 3 8 Q G1 21 [some (.ref x), some (.ref b), some (.ref it), l3] [] := by
    intro b it h0
    refine loopDownN (w 10).toNat ?_
    intro i ih G1 P l3 hE hb hit hi hP
    obtain ⟨fs, hitc⟩ := hit.c
    obtain ⟨fsb, hbc⟩ := hb.c
    have hSt := fun h : (i : Int) < 8 => hS.t (t := (i : Int)) (by omega) h
    first | refine y_ald_n E dX1_unwatchedAgain_21 (by rfl) ?_ | refine y_aload_n E dX1_unwatchedAgain_21 (by rfl) ?_
    refine y_callF E dX1_unwatchedAgain_22 lk_X1_136_J24 (c_it_has hit (by omega)) (by rfl) (hitc) rfl (by decide) (by omega) (by omega) rfl (Nat.le_of_ble_eq_true rfl) ?_ (fun _ _ _ h => h.elim)
    rintro _ _ ⟨rfl, hG9⟩
    rw [hG9]
    clear hG9
    refine y_ifd_eq (tgt := 68) E dX1_unwatchedAgain_27 (by decide) (fun h27 => ?_) (fun h27 => ?_)
    · refine y_bipush E dX1_unwatchedAgain_68 (by decide) ?_
      first | refine y_ald_n E dX1_unwatchedAgain_70 (by rfl) ?_ | refine y_aload_n E dX1_unwatchedAgain_70 (by rfl) ?_
      refine y_callV E dX1_unwatchedAgain_71 lk_X1_322 (c_J37_cardinality hb) (by rfl) (hbc) rfl (by decide) (by omega) (by omega) rfl (Nat.le_of_ble_eq_true rfl) ?_ (fun _ _ _ h => h.elim)
      rintro _ _ ⟨rfl, hG9⟩
      rw [hG9]
      clear hG9
      refine y_isub E dX1_unwatchedAgain_74 ?_
      refine y_forget hE ?_
      refine y_ireturn E F rfl rfl dX1_unwatchedAgain_75 (by omega) (by omega) ⟨rI (by rw [sumI_n (by decide), show (61 : Int) = ((61 : Nat) : Int) from rfl, cnt_sum (P := P) (fun k hk => by rw [← dB_b (P k)]; exact congrArg b2i (dB_c ⟨fun ⟨t, z⟩ => (hP k hk).mpr ⟨t, z.1, by omega, z.2.2⟩, fun z => by obtain ⟨t, z⟩ := (hP k hk).mp z; exact ⟨t, z.1, by omega, z.2.2⟩⟩))]), rfl⟩
    · first | refine y_ald_n E dX1_unwatchedAgain_30 (by rfl) ?_ | refine y_aload_n E dX1_unwatchedAgain_30 (by rfl) ?_
      refine y_callF E dX1_unwatchedAgain_31 lk_X1_142_J24 (c_it_next hit (twL_at (by omega))) (by rfl) (hitc) rfl (by decide) (by omega) (by omega) rfl (Nat.le_of_ble_eq_true rfl) ?_ (fun _ _ _ h => h.elim)
      rintro _ _ ⟨rfl, hit2, vv, hG9⟩
      rw [hG9] at hit2 ⊢
      clear hG9
      have hE2 := gExt_w hE (some yT0, vv) h0
      have hB1 := hB.e hE2
      have hI1 := hI.e hB hE2
      have hx1 := hE2 _ _ hx
      have htw := isST_t hI1 (t := i) (by omega)
      unfold twX twE at htw
      have hSt := hSt (by omega)
      have hb2 : isBS (gset G1 it (some yT0, vv)) (0, 98) b P := hb.kk (gK_w (P := (· = yT0)) _ hitc rfl) (by decide)
      obtain ⟨fsb2, hbc2⟩ := hb2.c
      obtain ⟨u1, u2, u3, u4⟩ := farUS_ok (w := w) (t := (i : Int)) (by omega)
      obtain ⟨e1, e2, e3, e4⟩ := farDS_ok (w := w) (t := (i : Int)) (by omega)
      obtain ⟨dd, hdd⟩ : ∃ dd : Nat, farDS w i = dd := ⟨(farDS w i).toNat, by omega⟩
      obtain ⟨uu, huu⟩ : ∃ uu : Nat, farUS w i + 1 = uu := ⟨(farUS w i + 1).toNat, by omega⟩
      refine y_ccast E dX1_unwatchedAgain_36 q1200 (htw) rfl (Or.inl rfl) ?_
      first | refine y_ast_n (j := 3) E dX1_unwatchedAgain_39 rfl (Nat.le_of_ble_eq_true rfl) ?_ | refine y_astore_n (j := 3) E dX1_unwatchedAgain_39 rfl (Nat.le_of_ble_eq_true rfl) ?_ | refine y_astore_n (j := 3) (r := none) E dX1_unwatchedAgain_39 rfl (Nat.le_of_ble_eq_true rfl) ?_
      first | refine y_ald_n E dX1_unwatchedAgain_40 (by rfl) ?_ | refine y_aload_n E dX1_unwatchedAgain_40 (by rfl) ?_
      refine y_getN E dX1_unwatchedAgain_41 fl_X1_220_X6 (htw) (by rfl) ?_
      refine y_if_eq (tgt := 65) E dX1_unwatchedAgain_44 (by decide) (by omega) (fun h44 => ?_) (fun h44 => ?_)
      · refine y_goto (tgt := 21) E dX1_unwatchedAgain_65 (by decide) ?_
        first
          | (refine ih (by omega) _ _ _ hE3 hb3 hit3 (by omega) (fun q hq => ?_)
             rw [Bool.or_eq_true, Bool.and_eq_true, decide_eq_true_iff, decide_eq_true_iff, hP q hq]
             constructor
             · rintro (⟨t, t0, t1, t2⟩ | ⟨q1, q2⟩)
               · exact ⟨t, t0, by omega, t2⟩
               · exact ⟨i, by omega, by omega, by omega, by omega, by omega⟩
             · rintro ⟨t, t0, t1, t2, t3, t4⟩
               by_cases e : t = i
               · subst e
                 exact Or.inr ⟨by omega, by omega⟩
               · exact Or.inl ⟨t, t0, by omega, t2, t3, t4⟩)
          | (refine ih (by omega) _ _ _ hE2 hb2 hit2 (by omega) (fun q hq => ?_)
             rw [hP q hq]
             constructor
             · rintro ⟨t, t0, t1, t2⟩
               exact ⟨t, t0, by omega, t2⟩
             · rintro ⟨t, t0, t1, t2, t3, t4⟩
               by_cases e : t = i
               · subst e
                 omega
               · exact ⟨t, t0, by omega, t2, t3, t4⟩)
      · first | refine y_ald_n E dX1_unwatchedAgain_47 (by rfl) ?_ | refine y_aload_n E dX1_unwatchedAgain_47 (by rfl) ?_
        first | refine y_ald_n E dX1_unwatchedAgain_48 (by rfl) ?_ | refine y_aload_n E dX1_unwatchedAgain_48 (by rfl) ?_
        first | refine y_ald_n E dX1_unwatchedAgain_49 (by rfl) ?_ | refine y_aload_n E dX1_unwatchedAgain_49 (by rfl) ?_
        refine y_iconst E dX1_unwatchedAgain_50 ?_
        refine y_callV E dX1_unwatchedAgain_51 lk_X1_315 (c_X1_endOf_d hB1 hx1 hI1 hS hL (t := i) (by omega)) (by rfl) (hx1) rfl (by decide) (by omega) (by omega) rfl (Nat.le_of_ble_eq_true rfl) ?_ (fun _ _ _ h => h.elim)
        rintro _ _ ⟨rfl, hG9⟩
        rw [hG9]
        clear hG9
        first | refine y_ald_n E dX1_unwatchedAgain_54 (by rfl) ?_ | refine y_aload_n E dX1_unwatchedAgain_54 (by rfl) ?_
        first | refine y_ald_n E dX1_unwatchedAgain_55 (by rfl) ?_ | refine y_aload_n E dX1_unwatchedAgain_55 (by rfl) ?_
        refine y_iconst E dX1_unwatchedAgain_56 ?_
        refine y_callV E dX1_unwatchedAgain_57 lk_X1_315 (c_X1_endOf_u hB1 hx1 hI1 hS hL (t := i) (by omega)) (by rfl) (hx1) rfl (by decide) (by omega) (by omega) rfl (Nat.le_of_ble_eq_true rfl) ?_ (fun _ _ _ h => h.elim)
        rintro _ _ ⟨rfl, hG9⟩
        rw [hG9]
        clear hG9
        refine y_iconst E dX1_unwatchedAgain_60 ?_
        refine y_iadd E dX1_unwatchedAgain_61 ?_
        rw [hdd, huu]
        refine y_callV E dX1_unwatchedAgain_62 lk_X1_319 (c_J37_set_2 hb2 (x := dd) (z := uu) (by omega) (by omega)) (by rfl) (hbc2) rfl (by decide) (by omega) (by omega) rfl (Nat.le_of_ble_eq_true rfl) ?_ (fun _ _ _ h => h.elim)
        rintro _ G3 ⟨rfl, hb3, hk3⟩
        have hE3 := gE_K hE2 hk3 hO.1
        have hit3 := hit2.kk hk3 (by decide) (by intro q; cases q)
        refine y_goto (tgt := 21) E dX1_unwatchedAgain_65 (by decide) ?_
        first
          | (refine ih (by omega) _ _ _ hE3 hb3 hit3 (by omega) (fun q hq => ?_)
             rw [Bool.or_eq_true, Bool.and_eq_true, decide_eq_true_iff, decide_eq_true_iff, hP q hq]
             constructor
             · rintro (⟨t, t0, t1, t2⟩ | ⟨q1, q2⟩)
               · exact ⟨t, t0, by omega, t2⟩
               · exact ⟨i, by omega, by omega, by omega, by omega, by omega⟩
             · rintro ⟨t, t0, t1, t2, t3, t4⟩
               by_cases e : t = i
               · subst e
                 exact Or.inr ⟨by omega, by omega⟩
               · exact Or.inl ⟨t, t0, by omega, t2, t3, t4⟩)
          | (refine ih (by omega) _ _ _ hE2 hb2 hit2 (by omega) (fun q hq => ?_)
             rw [hP q hq]
             constructor
             · rintro ⟨t, t0, t1, t2⟩
               exact ⟨t, t0, by omega, t2⟩
             · rintro ⟨t, t0, t1, t2, t3, t4⟩
               by_cases e : t = i
               · subst e
                 omega
               · exact ⟨t, t0, by omega, t2, t3, t4⟩)
  refine y_new E (0, 98) dX1_unwatchedAgain_0 nw_X1_294 (by omega) (by omega) (fun q0 hq0 => ?_)
  refine y_dup E dX1_unwatchedAgain_3 rfl ?_
  refine y_bipush E dX1_unwatchedAgain_4 (by decide) ?_
  refine y_callI E dX1_unwatchedAgain_6 lk_X1_312 (c_J37_init (τ := (0, 98)) (gset_s _ _ _)) (by rfl) (by decide) (by omega) (by omega) rfl (Nat.le_of_ble_eq_true rfl) ?_ (fun _ _ _ h => h.elim)
  rintro _ G1 ⟨rfl, hb, hk⟩
  have hE1 : gExt G G1 := gE_K (gExt_n hq0) hk hO.1
  have hx1 := hE1 _ _ hx
  have hst1 := hE1 _ _ hst
  have hB1 := hB.e hE1
  have hal1 := hal.e hB hE1
  obtain ⟨fal1, hac1⟩ := hal1.c
  first | refine y_ast_n (j := 1) E dX1_unwatchedAgain_9 rfl (Nat.le_of_ble_eq_true rfl) ?_ | refine y_astore_n (j := 1) E dX1_unwatchedAgain_9 rfl (Nat.le_of_ble_eq_true rfl) ?_ | refine y_astore_n (j := 1) (r := none) E dX1_unwatchedAgain_9 rfl (Nat.le_of_ble_eq_true rfl) ?_
  first | refine y_ald_n E dX1_unwatchedAgain_10 (by rfl) ?_ | refine y_aload_n E dX1_unwatchedAgain_10 (by rfl) ?_
  refine y_get E dX1_unwatchedAgain_11 fl_X1_10_X1 (hx1) (by rfl) ?_
  refine y_getN E dX1_unwatchedAgain_14 fl_X1_78_X2 (hst1) (by rfl) ?_
  refine y_callV E dX1_unwatchedAgain_17 lk_X1_132 (c_it_new hB1 hal1) (by rfl) (hac1) rfl (by decide) (by omega) (by omega) rfl (Nat.le_of_ble_eq_true rfl) ?_ (fun _ _ _ h => h.elim)
  rintro _ G2 ⟨it, vv, rfl, h0, hit, hG9⟩
  have hE2 : gExt G1 G2 := by rw [hG9]; exact gExt_n h0
  first | refine y_ast_n (j := 2) E dX1_unwatchedAgain_20 rfl (Nat.le_of_ble_eq_true rfl) ?_ | refine y_astore_n (j := 2) E dX1_unwatchedAgain_20 rfl (Nat.le_of_ble_eq_true rfl) ?_ | refine y_astore_n (j := 2) (r := none) E dX1_unwatchedAgain_20 rfl (Nat.le_of_ble_eq_true rfl) ?_
  exact loop q0 it (gE_0 hE1 h0) 0 G2 _ _ (gExt_t hE1 hE2) (hb.kk (gK_e (P := fun _ => False) hE2) (fun q => q)) hit (by omega) (fun q hq => ⟨fun z => by cases z, fun ⟨t, z⟩ => by omega⟩)
theorem c_X1_mistakes (hB : gB Γ G) (hC : isC Γ G N x C I S T) (hS : SH (T 5)) (hO : gOK G) (hL : LSW (T 5)) (hU : UT (T 5)) : Ct_X1_mistakes Γ 8 121 260 [.ref x] (G) (fun v G' => v = some (.int (iI (sumI (fun a => sumI (fun b => b2i (dB (a < b ∧ mistP (T 5) a b))) (T 5 10)) (T 5 10)))) ∧ G' = G) (noX) := by
  refine y_start (lv0 := [some (.ref x), none, none, none, none, none]) (nm := "mistakes") (own := RX1) (by decide +kernel) rfl rfl (by exact Nat.le_of_ble_eq_true rfl) (by rfl) ?_
  intro Z Q E F
  have hx := hC.o
  have hI := hC.s
  have hst := hI.1
  have hn := hS.nt
  obtain ⟨w, hw⟩ : ∃ w, w = T 5 := ⟨_, rfl⟩
  rw [← hw] at hI hst hn hS ⊢
  rw [← hw] at hL hU
  have hal := hI.2.1
  have hlen := twL_len S w
  obtain ⟨fal, hac⟩ := hal.c
  have outer : ∀ it, G it = none → ∀ i : Nat, ∀ (G1 : yH) (n : Int) (l3 l4 l5 : Option Value), gExt G G1 → gOK G1 → isIT Γ G1 it (sTl S) (I.1, 1) (twL S w) i → (i : Int) ≤ w 10 → n = sumI (fun a => sumI (fun b => b2i (dB (a < b ∧ mistP w a b))) (w 10)) i → Y Γ Z (1 + i + 4 * pcN i) (4 + 4 * i + 8 * pcN i) Q G1 13 [some (.ref x), some (.int (iI n)), some (.ref it), l3, l4, l5] [] := by
    intro it h0
    refine loopDownN (w 10).toNat ?_
    intro i ih G1 n l3 l4 l5 hE hO1 hit hi hn2
    obtain ⟨fs, hitc⟩ := hit.c
    have hpc := pcN_b i (by omega)
    have hps := pcN_s i
    have inner : (i : Int) < w 10 → ∀ G2, gExt G G2 → isIT Γ G2 it (sTl S) (I.1, 1) (twL S w) (i + 1) → ∀ it2, G2 it2 = none → ∀ j : Nat, ∀ (G3 : yH) (m : Int) (l5 : Option Value), gExt G2 G3 → gOK G3 → isIT Γ G3 it2 (sTl S) (I.1, 1) (twL S w) j → (j : Int) ≤ w 10 → m = n + sumI (fun b => b2i (dB (i < b ∧ mistP w i b))) j → Y Γ Z (2 + i + 4 * pcN i + 4 * (j - (i + 1))) (8 + 4 * i + 8 * pcN i + 8 * (j - (i + 1))) Q G3 44 [some (.ref x), some (.int (iI m)), some (.ref it), some (.ref (sTa S i)), some (.ref it2), l5] [] := by
      intro hin G2 hE2 hitn it2 h02
      refine loopDownN (w 10).toNat ?_
      intro j ihj G3 m l5 hE3 hO3 hit3 hjn hm
      obtain ⟨fs3, hitc3⟩ := hit3.c
      first | refine y_ald E dX1_mistakes_44 (by rfl) ?_ | refine y_aload E dX1_mistakes_44 (by rfl) ?_
      refine y_callF E dX1_mistakes_46 lk_X1_136_J24 (c_it_has hit3 (by omega)) (by rfl) (hitc3) rfl (by decide) (by omega) (by omega) rfl (Nat.le_of_ble_eq_true rfl) ?_ (fun _ _ _ h => h.elim)
      rintro _ _ ⟨rfl, hG9⟩
      rw [hG9]
      clear hG9
      refine y_ifd_eq (tgt := 102) E dX1_mistakes_51 (by decide) (fun h51 => ?_) (fun h51 => ?_)
      · refine y_goto (tgt := 13) E dX1_mistakes_102 (by decide) ?_
        refine y_widen (by omega) (by omega) (ih (by omega) G3 _ _ _ _ (gExt_t hE2 hE3) hO3 (hitn.e hE3) (by omega) ?_)
        show _ = sumI _ ((i : Int) + 1)
        rw [sumI_s (by omega), ← hn2, hm, show (j : Int) = w 10 by omega]
      · first | refine y_ald E dX1_mistakes_54 (by rfl) ?_ | refine y_aload E dX1_mistakes_54 (by rfl) ?_
        refine y_callF E dX1_mistakes_56 lk_X1_142_J24 (c_it_next hit3 (twL_at (by omega))) (by rfl) (hitc3) rfl (by decide) (by omega) (by omega) rfl (Nat.le_of_ble_eq_true rfl) ?_ (fun _ _ _ h => h.elim)
        rintro _ _ ⟨rfl, hit4, vv, hG9⟩
        rw [hG9] at hit4 ⊢
        clear hG9
        have hE4 := gExt_w hE3 (some yT0, vv) h02
        have hO4 := gOK_it hO3 (a := it2) (e := vv)
        have hE5 := gExt_t hE2 hE4
        have hB4 := hB.e hE5
        have hI4 := hI.e hB hE5
        have hst4 := hI4.1
        have hx4 := hE5 _ _ hx
        have hjw := isST_t hI4 (t := j) (by omega)
        have hiw := isST_t hI4 (t := i) (by omega)
        unfold twX twE at hjw hiw
        refine y_ccast E dX1_mistakes_61 q1200 (hjw) rfl (Or.inl rfl) ?_
        first | refine y_ast E dX1_mistakes_64 (Nat.le_of_ble_eq_true rfl) ?_ | refine y_astore E dX1_mistakes_64 (Nat.le_of_ble_eq_true rfl) ?_ | refine y_astore (r := none) E dX1_mistakes_64 (Nat.le_of_ble_eq_true rfl) ?_
        refine y_iload_n E dX1_mistakes_66 (by rfl) ?_
        first | refine y_ald_n E dX1_mistakes_67 (by rfl) ?_ | refine y_aload_n E dX1_mistakes_67 (by rfl) ?_
        refine y_getN E dX1_mistakes_68 fl_X1_150_X6 (hiw) (by rfl) ?_
        first | refine y_ald E dX1_mistakes_71 (by rfl) ?_ | refine y_aload E dX1_mistakes_71 (by rfl) ?_
        refine y_getN E dX1_mistakes_73 fl_X1_150_X6 (hjw) (by rfl) ?_
        refine y_icmp_ge (tgt := 96) E dX1_mistakes_76 (by decide) (by omega) (by omega) (fun h76 => ?_) (fun h76 => ?_)
        · refine y_iconst E dX1_mistakes_96 ?_
          refine y_iadd E dX1_mistakes_97 ?_
          refine y_istore_n (j := 1) E dX1_mistakes_98 rfl (Nat.le_of_ble_eq_true rfl) ?_
          refine y_goto (tgt := 44) E dX1_mistakes_99 (by decide) ?_
          refine y_widen (by omega) (by omega) (ihj (by omega) _ _ _ hE4 hO4 hit4 (by omega) ?_)
          show _ = n + sumI _ ((j : Int) + 1)
          rw [sumI_s (by omega), hm]
          first
            | (rw [b2i_dt ⟨by omega, h89⟩]; omega)
            | (rw [b2i_df (fun q => h89 q.2)]; omega)
            | (rw [b2i_df (fun q => by have := q.1; omega)]; omega)
        · first | refine y_ald_n E dX1_mistakes_79 (by rfl) ?_ | refine y_aload_n E dX1_mistakes_79 (by rfl) ?_
          refine y_get E dX1_mistakes_80 fl_X1_10_X1 (hx4) (by rfl) ?_
          first | refine y_ald_n E dX1_mistakes_83 (by rfl) ?_ | refine y_aload_n E dX1_mistakes_83 (by rfl) ?_
          first | refine y_ald E dX1_mistakes_84 (by rfl) ?_ | refine y_aload E dX1_mistakes_84 (by rfl) ?_
          refine y_callV E dX1_mistakes_86 lk_X1_305 (c_X2_areMistaken hB4 hI4 hS hL hU hO4 hin (u := j) (by omega)) (by rfl) (hst4) rfl (by decide) (by omega) (by omega) rfl (Nat.le_of_ble_eq_true rfl) ?_ (fun _ _ _ h => h.elim)
          rintro _ _ ⟨rfl, hG9⟩
          rw [hG9]
          clear hG9
          refine y_ifd_eq (tgt := 96) E dX1_mistakes_89 (by decide) (fun h89 => ?_) (fun h89 => ?_)
          · refine y_iconst E dX1_mistakes_96 ?_
            refine y_iadd E dX1_mistakes_97 ?_
            refine y_istore_n (j := 1) E dX1_mistakes_98 rfl (Nat.le_of_ble_eq_true rfl) ?_
            refine y_goto (tgt := 44) E dX1_mistakes_99 (by decide) ?_
            refine y_widen (by omega) (by omega) (ihj (by omega) _ _ _ hE4 hO4 hit4 (by omega) ?_)
            show _ = n + sumI _ ((j : Int) + 1)
            rw [sumI_s (by omega), hm]
            first
              | (rw [b2i_dt ⟨by omega, h89⟩]; omega)
              | (rw [b2i_df (fun q => h89 q.2)]; omega)
              | (rw [b2i_df (fun q => by have := q.1; omega)]; omega)
          · refine y_iconst E dX1_mistakes_92 ?_
            refine y_goto (tgt := 97) E dX1_mistakes_93 (by decide) ?_
            refine y_iadd E dX1_mistakes_97 ?_
            refine y_istore_n (j := 1) E dX1_mistakes_98 rfl (Nat.le_of_ble_eq_true rfl) ?_
            refine y_goto (tgt := 44) E dX1_mistakes_99 (by decide) ?_
            refine y_widen (by omega) (by omega) (ihj (by omega) _ _ _ hE4 hO4 hit4 (by omega) ?_)
            show _ = n + sumI _ ((j : Int) + 1)
            rw [sumI_s (by omega), hm]
            first
              | (rw [b2i_dt ⟨by omega, h89⟩]; omega)
              | (rw [b2i_df (fun q => h89 q.2)]; omega)
              | (rw [b2i_df (fun q => by have := q.1; omega)]; omega)
    first | refine y_ald_n E dX1_mistakes_13 (by rfl) ?_ | refine y_aload_n E dX1_mistakes_13 (by rfl) ?_
    refine y_callF E dX1_mistakes_14 lk_X1_136_J24 (c_it_has hit (by omega)) (by rfl) (hitc) rfl (by decide) (by omega) (by omega) rfl (Nat.le_of_ble_eq_true rfl) ?_ (fun _ _ _ h => h.elim)
    rintro _ _ ⟨rfl, hG9⟩
    rw [hG9]
    clear hG9
    refine y_ifd_eq (tgt := 105) E dX1_mistakes_19 (by decide) (fun h19 => ?_) (fun h19 => ?_)
    · refine y_forget hE ?_
      refine y_iload_n E dX1_mistakes_105 (by rfl) ?_
      refine y_ireturn E F rfl rfl dX1_mistakes_106 (by omega) (by omega) ⟨rI (by rw [hn2, show (i : Int) = w 10 by omega]), rfl⟩
    · first | refine y_ald_n E dX1_mistakes_22 (by rfl) ?_ | refine y_aload_n E dX1_mistakes_22 (by rfl) ?_
      refine y_callF E dX1_mistakes_23 lk_X1_142_J24 (c_it_next hit (twL_at (by omega))) (by rfl) (hitc) rfl (by decide) (by omega) (by omega) rfl (Nat.le_of_ble_eq_true rfl) ?_ (fun _ _ _ h => h.elim)
      rintro _ _ ⟨rfl, hit2, vv, hG9⟩
      rw [hG9] at hit2 ⊢
      clear hG9
      have hE2 := gExt_w hE (some yT0, vv) h0
      have hO2 := gOK_it hO1 (a := it) (e := vv)
      have hB2 := hB.e hE2
      have hI2 := hI.e hB hE2
      have hst2 := hI2.1
      have hx2 := hE2 _ _ hx
      have hal2 := hI2.2.1
      obtain ⟨fal2, hac2⟩ := hal2.c
      have hiw := isST_t hI2 (t := i) (by omega)
      unfold twX twE at hiw
      refine y_ccast E dX1_mistakes_28 q1200 (hiw) rfl (Or.inl rfl) ?_
      first | refine y_ast_n (j := 3) E dX1_mistakes_31 rfl (Nat.le_of_ble_eq_true rfl) ?_ | refine y_astore_n (j := 3) E dX1_mistakes_31 rfl (Nat.le_of_ble_eq_true rfl) ?_ | refine y_astore_n (j := 3) (r := none) E dX1_mistakes_31 rfl (Nat.le_of_ble_eq_true rfl) ?_
      first | refine y_ald_n E dX1_mistakes_32 (by rfl) ?_ | refine y_aload_n E dX1_mistakes_32 (by rfl) ?_
      refine y_get E dX1_mistakes_33 fl_X1_10_X1 (hx2) (by rfl) ?_
      refine y_getN E dX1_mistakes_36 fl_X1_78_X2 (hst2) (by rfl) ?_
      refine y_callV E dX1_mistakes_39 lk_X1_132 (c_it_new hB2 hal2) (by rfl) (hac2) rfl (by decide) (by omega) (by omega) rfl (Nat.le_of_ble_eq_true rfl) ?_ (fun _ _ _ h => h.elim)
      rintro _ G3 ⟨it2, vv2, rfl, h02, hit3, hG9⟩
      first | refine y_ast E dX1_mistakes_42 (Nat.le_of_ble_eq_true rfl) ?_ | refine y_astore E dX1_mistakes_42 (Nat.le_of_ble_eq_true rfl) ?_ | refine y_astore (r := none) E dX1_mistakes_42 (Nat.le_of_ble_eq_true rfl) ?_
      refine y_widen (by omega) (by omega) (inner (by omega) _ hE2 hit2 it2 h02 0 G3 _ _ (by rw [hG9]; exact gExt_n h02) (by rw [hG9]; exact gOK_it hO2) hit3 (by omega) (by rw [show ((0 : Nat) : Int) = 0 from rfl, sumI_0]; omega))
  refine y_iconst E dX1_mistakes_0 ?_
  refine y_istore_n (j := 1) E dX1_mistakes_1 rfl (Nat.le_of_ble_eq_true rfl) ?_
  first | refine y_ald_n E dX1_mistakes_2 (by rfl) ?_ | refine y_aload_n E dX1_mistakes_2 (by rfl) ?_
  refine y_get E dX1_mistakes_3 fl_X1_10_X1 (hx) (by rfl) ?_
  refine y_getN E dX1_mistakes_6 fl_X1_78_X2 (hst) (by rfl) ?_
  refine y_callV E dX1_mistakes_9 lk_X1_132 (c_it_new hB hal) (by rfl) (hac) rfl (by decide) (by omega) (by omega) rfl (Nat.le_of_ble_eq_true rfl) ?_ (fun _ _ _ h => h.elim)
  rintro _ G1 ⟨it, vv, rfl, h0, hit, hG9⟩
  first | refine y_ast_n (j := 2) E dX1_mistakes_12 rfl (Nat.le_of_ble_eq_true rfl) ?_ | refine y_astore_n (j := 2) E dX1_mistakes_12 rfl (Nat.le_of_ble_eq_true rfl) ?_ | refine y_astore_n (j := 2) (r := none) E dX1_mistakes_12 rfl (Nat.le_of_ble_eq_true rfl) ?_
  exact y_widen (by omega) (by omega) (outer it h0 0 G1 _ _ _ _ (by rw [hG9]; exact gExt_n h0) (by rw [hG9]; exact gOK_it hO) hit (by omega) (sumI_0 _).symm)
end X1m
