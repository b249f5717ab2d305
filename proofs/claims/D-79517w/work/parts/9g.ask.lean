/-! ===== the component: what is asked (1) ===== -/
section Aq
noncomputable def q_reach (w : Int → Int) (t p : Int) : Int × Int := if (0 ≤ t ∧ t ≤ w 10 - 1) ∧ 0 ≤ p ∧ p ≤ 60 then (0, b2i (dB (rchP w t p))) else (1, 0)
noncomputable def q_alike (w : Int → Int) (t o : Int) : Int × Int := if (0 ≤ t ∧ t ≤ w 10 - 1) ∧ 0 ≤ o ∧ o ≤ w 10 - 1 then (0, b2i (dB (alikeP w t o))) else (1, 0)
noncomputable def q_sign (w : Int → Int) (t i : Int) : Int × Int := if (0 ≤ t ∧ t ≤ w 10 - 1) ∧ 0 ≤ i ∧ i ≤ tw w t 7 - 1 then (0, if flS (tw w t 6).toNat (tw w t 7).toNat i.toNat = true then 42 else 46) else (1, 0)
noncomputable def q_whole (T : Nat → Int → Int) : Int × Int := if T 18 0 = 0 then (1, 0) else (0, b2i (dB (lostS T = 0)))
theorem okP {a b : Int} {c : Int × Int} (h : c = (a, b)) : c.1 = a ∧ c.2 = b := by rw [h]; exact ⟨rfl, rfl⟩
/-- an answer -/
def ansI (v : Option Value) (q : Int × Int) : Prop := q.1 = 0 ∧ v = some (.int (iI q.2))
theorem ansI_i {q : Int × Int} {b : Int} (h : q = (0, b)) : ansI (some (.int (iI b))) q := by rw [h]; exact ⟨rfl, rfl⟩
end Aq
section X1q
variable {Γ : yG} {G : yH} {N x : Nat} {C : CF} {I : ID} {S : SA} {T : Nat → Int → Int} {st : Nat} {t0 : yT} {hc fp : Int} {w : Int → Int}
set_option maxHeartbeats 4000000
/-- patterns of two towers -/
theorem c_isLikeS {L9 : Nat} (hL9 : L9 = 2) {S : SA} (hI : isST Γ G st (kSt C) S w) (hS : SH w) (hU : UT w) {t u : Nat} (ht : (t : Int) < w 10) (hu : (u : Int) < w 10) : Ct_X6_isLike Γ L9 0 0 [.ref (sTa S t), .ref (sTa S u)] G (fun v G' => v = some (.int (iI (b2i (dB (alikeP w t u))))) ∧ G' = G) noX := by
  subst hL9
  have hn := hS.nt
  have htw := isST_t hI ht
  have huw := isST_t hI hu
  have hSt := hS.t (t := (t : Int)) (by omega) (by omega)
  have hSu := hS.t (t := (u : Int)) (by omega) (by omega)
  have hPt := hU t (by omega) ht
  have hPu := hU u (by omega) hu
  obtain ⟨s, hs⟩ : ∃ s : Nat, tw w t 6 = s := ⟨(tw w t 6).toNat, by omega⟩
  obtain ⟨o, ho⟩ : ∃ s : Nat, tw w u 6 = s := ⟨(tw w u 6).toNat, by omega⟩
  obtain ⟨m, hm⟩ : ∃ s : Nat, tw w t 7 = s := ⟨(tw w t 7).toNat, by omega⟩
  unfold twX at htw huw
  rw [hs, hm] at htw
  rw [ho] at huw
  have hal : alikeP w t u ↔ tw w t 7 = tw w u 7 ∧ likeS s o m = true := by unfold alikeP; rw [hs, ho, hm]; simp only [Int.toNat_natCast]
  by_cases e7 : tw w u 7 = m
  · rw [e7] at huw
    have hm2 := hPt.1
    refine Ct_mono (c_X6_isLike2 htw huw (by omega) (by omega) (by omega)) (fun v G' q => ⟨?_, q.2⟩) (fun E G' q => q)
    rw [q.1, show b2i (likeS s o m) = b2i (dB (alikeP w t u)) by rw [dB_c (show alikeP w t u ↔ likeS s o m = true from ⟨fun z => (hal.mp z).2, fun z => hal.mpr ⟨by omega, z⟩⟩), dB_b]]
  · refine Ct_mono (c_X6_isLike_ne htw huw (by omega) (by omega) (by omega)) (fun v G' q => ⟨?_, q.2⟩) (fun E G' q => q)
    rw [q.1, show dB (alikeP w t u) = false from dB_f (fun z => e7 (by have := (hal.mp z).1; omega))]
theorem c_X1_cost (hB : gB Γ G) (hC : isC Γ G N x C I S T) (hS : SH (T 5)) {a b : Int} (ha : inR a) (hb : inR b) : Ct_X1_cost Γ 4 1 6 [.ref x, .int (iI a), .int (iI b)] (G) (fun v G' => ansI v (q_cost (T 5) a b) ∧ G' = G) (fun E G' => xs [eI] (q_cost (T 5) a b).1 E ∧ G' = G) := by
  refine y_start (lv0 := [some (.ref x), some (.int (iI a)), some (.int (iI b))]) (nm := "cost") (own := RX1) (by decide +kernel) rfl rfl (by exact Nat.le_of_ble_eq_true rfl) (by rfl) ?_
  intro Z Q E F
  have hx := hC.o
  have hI := hC.s
  have hst := hI.1
  have hn := hS.nt
  obtain ⟨w, hw⟩ : ∃ w, w = T 5 := ⟨_, rfl⟩
  rw [← hw] at hI hst hn hS ⊢
  have no : ¬ ((0 ≤ a ∧ a ≤ 60) ∧ 0 ≤ b ∧ b ≤ 60) → q_cost w a b = (1, 0) := fun h => if_neg h
  have yes : (0 ≤ a ∧ a ≤ 60) ∧ 0 ≤ b ∧ b ≤ 60 → q_cost w a b = (0, costS w a b) := fun h => if_pos h
  refine y_iload_n E dX1_cost_0 (by rfl) ?_
  refine y_callS E dX1_cost_1 lk_X1_118 (c_X1_isPlace ha) (by rfl) (by decide) (by omega) (by omega) rfl (Nat.le_of_ble_eq_true rfl) ?_ (fun _ _ _ h => h.elim)
  rintro _ _ ⟨rfl, hG9⟩
  rw [hG9]
  clear hG9
  refine y_ifd_eq (tgt := 18) E dX1_cost_4 (by decide) (fun h4 => ?_) (fun h4 => ?_)
  · refine y_iconst E dX1_cost_18 ?_
    refine y_callS E dX1_cost_19 lk_X1_122 (c_X1_checkIndex_f) (by rfl) (by decide) (by omega) (by omega) rfl (Nat.le_of_ble_eq_true rfl) (fun _ _ h => h.elim) ?_
    rintro _ _ _ ⟨rfl, rfl⟩
    exact y_xout E F (by omega) (by omega) (⟨xs_0 (okP (no (fun q => by omega))).1, rfl⟩)
  · refine y_iload_n E dX1_cost_7 (by rfl) ?_
    refine y_callS E dX1_cost_8 lk_X1_118 (c_X1_isPlace hb) (by rfl) (by decide) (by omega) (by omega) rfl (Nat.le_of_ble_eq_true rfl) ?_ (fun _ _ _ h => h.elim)
    rintro _ _ ⟨rfl, hG9⟩
    rw [hG9]
    clear hG9
    refine y_ifd_eq (tgt := 18) E dX1_cost_11 (by decide) (fun h11 => ?_) (fun h11 => ?_)
    · refine y_iconst E dX1_cost_18 ?_
      refine y_callS E dX1_cost_19 lk_X1_122 (c_X1_checkIndex_f) (by rfl) (by decide) (by omega) (by omega) rfl (Nat.le_of_ble_eq_true rfl) (fun _ _ h => h.elim) ?_
      rintro _ _ _ ⟨rfl, rfl⟩
      exact y_xout E F (by omega) (by omega) (⟨xs_0 (okP (no (fun q => by omega))).1, rfl⟩)
    · refine y_iconst E dX1_cost_14 ?_
      refine y_goto (tgt := 19) E dX1_cost_15 (by decide) ?_
      refine y_callS E dX1_cost_19 lk_X1_122 (c_X1_checkIndex_t) (by rfl) (by decide) (by omega) (by omega) rfl (Nat.le_of_ble_eq_true rfl) ?_ (fun _ _ _ h => h.elim)
      rintro _ _ ⟨rfl, rfl⟩
      first | refine y_ald_n E dX1_cost_22 (by rfl) ?_ | refine y_aload_n E dX1_cost_22 (by rfl) ?_
      refine y_get E dX1_cost_23 fl_X1_10_X1 (hx) (by rfl) ?_
      refine y_iload_n E dX1_cost_26 (by rfl) ?_
      refine y_iload_n E dX1_cost_27 (by rfl) ?_
      refine y_callV E dX1_cost_28 lk_X1_279 (c_X2_cost hI (by omega) (by omega)) (by rfl) (hst) rfl (by decide) (by omega) (by omega) rfl (Nat.le_of_ble_eq_true rfl) ?_ (fun _ _ _ h => h.elim)
      rintro _ _ ⟨rfl, hG9⟩
      rw [hG9]
      clear hG9
      refine y_ireturn E F rfl rfl dX1_cost_31 (by omega) (by omega) ⟨ansI_i (yes ⟨by omega, by omega⟩), rfl⟩
theorem c_X1_reaches (hB : gB Γ G) (hC : isC Γ G N x C I S T) (hS : SH (T 5)) (hL : LSW (T 5)) {t p : Int} (ht : inR t) (hp : inR p) : Ct_X1_reaches Γ 5 1 6 [.ref x, .int (iI t), .int (iI p)] (G) (fun v G' => ansI v (q_reach (T 5) t p) ∧ G' = G) (fun E G' => xs [eI] (q_reach (T 5) t p).1 E ∧ G' = G) := by
  refine y_start (lv0 := [some (.ref x), some (.int (iI t)), some (.int (iI p))]) (nm := "reaches") (own := RX1) (by decide +kernel) rfl rfl (by exact Nat.le_of_ble_eq_true rfl) (by rfl) ?_
  intro Z Q E F
  have hx := hC.o
  have hI := hC.s
  have hst := hI.1
  have hn := hS.nt
  obtain ⟨w, hw⟩ : ∃ w, w = T 5 := ⟨_, rfl⟩
  rw [← hw] at hI hst hn hS ⊢
  rw [← hw] at hL
  have no : ¬ ((0 ≤ t ∧ t ≤ w 10 - 1) ∧ 0 ≤ p ∧ p ≤ 60) → q_reach w t p = (1, 0) := fun h => if_neg h
  have yes : (0 ≤ t ∧ t ≤ w 10 - 1) ∧ 0 ≤ p ∧ p ≤ 60 → q_reach w t p = (0, b2i (dB (rchP w t p))) := fun h => if_pos h
  first | refine y_ald_n E dX1_reaches_0 (by rfl) ?_ | refine y_aload_n E dX1_reaches_0 (by rfl) ?_
  refine y_iload_n E dX1_reaches_1 (by rfl) ?_
  refine y_callV E dX1_reaches_2 lk_X1_177 (c_X1_isTower hx hI hS ht) (by rfl) (hx) rfl (by decide) (by omega) (by omega) rfl (Nat.le_of_ble_eq_true rfl) ?_ (fun _ _ _ h => h.elim)
  rintro _ _ ⟨rfl, hG9⟩
  rw [hG9]
  clear hG9
  refine y_ifd_eq (tgt := 19) E dX1_reaches_5 (by decide) (fun h5 => ?_) (fun h5 => ?_)
  · refine y_iconst E dX1_reaches_19 ?_
    refine y_callS E dX1_reaches_20 lk_X1_122 (c_X1_checkIndex_f) (by rfl) (by decide) (by omega) (by omega) rfl (Nat.le_of_ble_eq_true rfl) (fun _ _ h => h.elim) ?_
    rintro _ _ _ ⟨rfl, rfl⟩
    exact y_xout E F (by omega) (by omega) (⟨xs_0 (okP (no (fun q => by omega))).1, rfl⟩)
  · refine y_iload_n E dX1_reaches_8 (by rfl) ?_
    refine y_callS E dX1_reaches_9 lk_X1_118 (c_X1_isPlace hp) (by rfl) (by decide) (by omega) (by omega) rfl (Nat.le_of_ble_eq_true rfl) ?_ (fun _ _ _ h => h.elim)
    rintro _ _ ⟨rfl, hG9⟩
    rw [hG9]
    clear hG9
    refine y_ifd_eq (tgt := 19) E dX1_reaches_12 (by decide) (fun h12 => ?_) (fun h12 => ?_)
    · refine y_iconst E dX1_reaches_19 ?_
      refine y_callS E dX1_reaches_20 lk_X1_122 (c_X1_checkIndex_f) (by rfl) (by decide) (by omega) (by omega) rfl (Nat.le_of_ble_eq_true rfl) (fun _ _ h => h.elim) ?_
      rintro _ _ _ ⟨rfl, rfl⟩
      exact y_xout E F (by omega) (by omega) (⟨xs_0 (okP (no (fun q => by omega))).1, rfl⟩)
    · refine y_iconst E dX1_reaches_15 ?_
      refine y_goto (tgt := 20) E dX1_reaches_16 (by decide) ?_
      refine y_callS E dX1_reaches_20 lk_X1_122 (c_X1_checkIndex_t) (by rfl) (by decide) (by omega) (by omega) rfl (Nat.le_of_ble_eq_true rfl) ?_ (fun _ _ _ h => h.elim)
      rintro _ _ ⟨rfl, rfl⟩
      first | refine y_ald_n E dX1_reaches_23 (by rfl) ?_ | refine y_aload_n E dX1_reaches_23 (by rfl) ?_
      refine y_get E dX1_reaches_24 fl_X1_10_X1 (hx) (by rfl) ?_
      first | refine y_ald_n E dX1_reaches_27 (by rfl) ?_ | refine y_aload_n E dX1_reaches_27 (by rfl) ?_
      refine y_iload_n E dX1_reaches_28 (by rfl) ?_
      refine y_callV E dX1_reaches_29 lk_X1_189 (c_X1_at hx hI hS (t := t) (by omega) (by omega)) (by rfl) (hx) rfl (by decide) (by omega) (by omega) rfl (Nat.le_of_ble_eq_true rfl) ?_ (fun _ _ _ h => h.elim)
      rintro _ _ ⟨rfl, hG9⟩
      rw [hG9]
      clear hG9
      refine y_iload_n E dX1_reaches_32 (by rfl) ?_
      refine y_callV E dX1_reaches_33 lk_X1_282 (c_X2_reaches hB hI hS hL (t := t.toNat) (by omega) (by omega)) (by rfl) (hst) rfl (by decide) (by omega) (by omega) rfl (Nat.le_of_ble_eq_true rfl) ?_ (fun _ _ _ h => h.elim)
      rintro _ _ ⟨rfl, hG9⟩
      rw [hG9]
      clear hG9
      rw [show ((t.toNat : Nat) : Int) = t by omega]
      refine y_ireturn E F rfl (nar_b _) dX1_reaches_36 (by omega) (by omega) ⟨ansI_i (yes ⟨by omega, by omega⟩), rfl⟩
theorem c_X1_areAlike (hB : gB Γ G) (hC : isC Γ G N x C I S T) (hS : SH (T 5)) (hU : UT (T 5)) {t o : Int} (ht : inR t) (ho : inR o) : Ct_X1_areAlike Γ 5 1 6 [.ref x, .int (iI t), .int (iI o)] (G) (fun v G' => ansI v (q_alike (T 5) t o) ∧ G' = G) (fun E G' => xs [eI] (q_alike (T 5) t o).1 E ∧ G' = G) := by
  refine y_start (lv0 := [some (.ref x), some (.int (iI t)), some (.int (iI o))]) (nm := "areAlike") (own := RX1) (by decide +kernel) rfl rfl (by exact Nat.le_of_ble_eq_true rfl) (by rfl) ?_
  intro Z Q E F
  have hx := hC.o
  have hI := hC.s
  have hst := hI.1
  have hn := hS.nt
  obtain ⟨w, hw⟩ : ∃ w, w = T 5 := ⟨_, rfl⟩
  rw [← hw] at hI hst hn hS ⊢
  rw [← hw] at hU
  have no : ¬ ((0 ≤ t ∧ t ≤ w 10 - 1) ∧ 0 ≤ o ∧ o ≤ w 10 - 1) → q_alike w t o = (1, 0) := fun h => if_neg h
  have yes : (0 ≤ t ∧ t ≤ w 10 - 1) ∧ 0 ≤ o ∧ o ≤ w 10 - 1 → q_alike w t o = (0, b2i (dB (alikeP w t o))) := fun h => if_pos h
  first | refine y_ald_n E dX1_areAlike_0 (by rfl) ?_ | refine y_aload_n E dX1_areAlike_0 (by rfl) ?_
  refine y_iload_n E dX1_areAlike_1 (by rfl) ?_
  refine y_callV E dX1_areAlike_2 lk_X1_177 (c_X1_isTower hx hI hS ht) (by rfl) (hx) rfl (by decide) (by omega) (by omega) rfl (Nat.le_of_ble_eq_true rfl) ?_ (fun _ _ _ h => h.elim)
  rintro _ _ ⟨rfl, hG9⟩
  rw [hG9]
  clear hG9
  refine y_ifd_eq (tgt := 20) E dX1_areAlike_5 (by decide) (fun h5 => ?_) (fun h5 => ?_)
  · refine y_iconst E dX1_areAlike_20 ?_
    refine y_callS E dX1_areAlike_21 lk_X1_122 (c_X1_checkIndex_f) (by rfl) (by decide) (by omega) (by omega) rfl (Nat.le_of_ble_eq_true rfl) (fun _ _ h => h.elim) ?_
    rintro _ _ _ ⟨rfl, rfl⟩
    exact y_xout E F (by omega) (by omega) (⟨xs_0 (okP (no (fun q => by omega))).1, rfl⟩)
  · first | refine y_ald_n E dX1_areAlike_8 (by rfl) ?_ | refine y_aload_n E dX1_areAlike_8 (by rfl) ?_
    refine y_iload_n E dX1_areAlike_9 (by rfl) ?_
    refine y_callV E dX1_areAlike_10 lk_X1_177 (c_X1_isTower hx hI hS ho) (by rfl) (hx) rfl (by decide) (by omega) (by omega) rfl (Nat.le_of_ble_eq_true rfl) ?_ (fun _ _ _ h => h.elim)
    rintro _ _ ⟨rfl, hG9⟩
    rw [hG9]
    clear hG9
    refine y_ifd_eq (tgt := 20) E dX1_areAlike_13 (by decide) (fun h13 => ?_) (fun h13 => ?_)
    · refine y_iconst E dX1_areAlike_20 ?_
      refine y_callS E dX1_areAlike_21 lk_X1_122 (c_X1_checkIndex_f) (by rfl) (by decide) (by omega) (by omega) rfl (Nat.le_of_ble_eq_true rfl) (fun _ _ h => h.elim) ?_
      rintro _ _ _ ⟨rfl, rfl⟩
      exact y_xout E F (by omega) (by omega) (⟨xs_0 (okP (no (fun q => by omega))).1, rfl⟩)
    · refine y_iconst E dX1_areAlike_16 ?_
      refine y_goto (tgt := 21) E dX1_areAlike_17 (by decide) ?_
      refine y_callS E dX1_areAlike_21 lk_X1_122 (c_X1_checkIndex_t) (by rfl) (by decide) (by omega) (by omega) rfl (Nat.le_of_ble_eq_true rfl) ?_ (fun _ _ _ h => h.elim)
      rintro _ _ ⟨rfl, rfl⟩
      first | refine y_ald_n E dX1_areAlike_24 (by rfl) ?_ | refine y_aload_n E dX1_areAlike_24 (by rfl) ?_
      refine y_iload_n E dX1_areAlike_25 (by rfl) ?_
      refine y_callV E dX1_areAlike_26 lk_X1_189 (c_X1_at hx hI hS (t := t) (by omega) (by omega)) (by rfl) (hx) rfl (by decide) (by omega) (by omega) rfl (Nat.le_of_ble_eq_true rfl) ?_ (fun _ _ _ h => h.elim)
      rintro _ _ ⟨rfl, hG9⟩
      rw [hG9]
      clear hG9
      first | refine y_ald_n E dX1_areAlike_29 (by rfl) ?_ | refine y_aload_n E dX1_areAlike_29 (by rfl) ?_
      refine y_iload_n E dX1_areAlike_30 (by rfl) ?_
      refine y_callV E dX1_areAlike_31 lk_X1_189 (c_X1_at hx hI hS (t := o) (by omega) (by omega)) (by rfl) (hx) rfl (by decide) (by omega) (by omega) rfl (Nat.le_of_ble_eq_true rfl) ?_ (fun _ _ _ h => h.elim)
      rintro _ _ ⟨rfl, hG9⟩
      rw [hG9]
      clear hG9
      refine y_callV E dX1_areAlike_34 lk_X1_301 (c_isLikeS rfl hI hS hU (t := t.toNat) (u := o.toNat) (by omega) (by omega)) (by rfl) (isST_t hI (t := t.toNat) (by omega)) rfl (by decide) (by omega) (by omega) rfl (Nat.le_of_ble_eq_true rfl) ?_ (fun _ _ _ h => h.elim)
      rintro _ _ ⟨rfl, hG9⟩
      rw [hG9]
      clear hG9
      rw [show ((t.toNat : Nat) : Int) = t by omega, show ((o.toNat : Nat) : Int) = o by omega]
      refine y_ireturn E F rfl (nar_b _) dX1_areAlike_37 (by omega) (by omega) ⟨ansI_i (yes ⟨by omega, by omega⟩), rfl⟩
theorem c_X1_margin (hB : gB Γ G) (hC : isC Γ G N x C I S T) (hS : SH (T 5)) (hL : LSW (T 5)) {t o : Int} (ht : inR t) (ho : inR o) : Ct_X1_margin Γ 6 1 6 [.ref x, .int (iI t), .int (iI o)] (G) (fun v G' => ansI v (q_margin (T 5) t o) ∧ G' = G) (fun E G' => xs [eI, eN] (q_margin (T 5) t o).1 E ∧ G' = G) := by
  refine y_start (lv0 := [some (.ref x), some (.int (iI t)), some (.int (iI o))]) (nm := "margin") (own := RX1) (by decide +kernel) rfl rfl (by exact Nat.le_of_ble_eq_true rfl) (by rfl) ?_
  intro Z Q E F
  have hx := hC.o
  have hI := hC.s
  have hst := hI.1
  have hn := hS.nt
  obtain ⟨w, hw⟩ : ∃ w, w = T 5 := ⟨_, rfl⟩
  rw [← hw] at hI hst hn hS ⊢
  rw [← hw] at hL
  have no : ¬ ((0 ≤ t ∧ t ≤ w 10 - 1) ∧ (0 ≤ o ∧ o ≤ w 10 - 1) ∧ t ≠ o) → q_margin w t o = (1, 0) := fun h => if_pos h
  have no2 : (0 ≤ t ∧ t ≤ w 10 - 1) ∧ (0 ≤ o ∧ o ≤ w 10 - 1) ∧ t ≠ o → ¬ csP w t o → q_margin w t o = (2, 0) := fun h g => by unfold q_margin; rw [if_neg (fun q => q h), if_neg (fun q => g (dB_iff.mp q))]
  have yes : (0 ≤ t ∧ t ≤ w 10 - 1) ∧ (0 ≤ o ∧ o ≤ w 10 - 1) ∧ t ≠ o → csP w t o → q_margin w t o = (0, marS w t o) := fun h g => by unfold q_margin; rw [if_neg (fun q => q h), if_pos (dB_t g)]
  first | refine y_ald_n E dX1_margin_0 (by rfl) ?_ | refine y_aload_n E dX1_margin_0 (by rfl) ?_
  refine y_iload_n E dX1_margin_1 (by rfl) ?_
  refine y_callV E dX1_margin_2 lk_X1_177 (c_X1_isTower hx hI hS ht) (by rfl) (hx) rfl (by decide) (by omega) (by omega) rfl (Nat.le_of_ble_eq_true rfl) ?_ (fun _ _ _ h => h.elim)
  rintro _ _ ⟨rfl, hG9⟩
  rw [hG9]
  clear hG9
  refine y_ifd_eq (tgt := 25) E dX1_margin_5 (by decide) (fun h5 => ?_) (fun h5 => ?_)
  · refine y_iconst E dX1_margin_25 ?_
    refine y_callS E dX1_margin_26 lk_X1_122 (c_X1_checkIndex_f) (by rfl) (by decide) (by omega) (by omega) rfl (Nat.le_of_ble_eq_true rfl) (fun _ _ h => h.elim) ?_
    rintro _ _ _ ⟨rfl, rfl⟩
    exact y_xout E F (by omega) (by omega) (⟨xs_0 (okP (no (fun q => by omega))).1, rfl⟩)
  · first | refine y_ald_n E dX1_margin_8 (by rfl) ?_ | refine y_aload_n E dX1_margin_8 (by rfl) ?_
    refine y_iload_n E dX1_margin_9 (by rfl) ?_
    refine y_callV E dX1_margin_10 lk_X1_177 (c_X1_isTower hx hI hS ho) (by rfl) (hx) rfl (by decide) (by omega) (by omega) rfl (Nat.le_of_ble_eq_true rfl) ?_ (fun _ _ _ h => h.elim)
    rintro _ _ ⟨rfl, hG9⟩
    rw [hG9]
    clear hG9
    refine y_ifd_eq (tgt := 25) E dX1_margin_13 (by decide) (fun h13 => ?_) (fun h13 => ?_)
    · refine y_iconst E dX1_margin_25 ?_
      refine y_callS E dX1_margin_26 lk_X1_122 (c_X1_checkIndex_f) (by rfl) (by decide) (by omega) (by omega) rfl (Nat.le_of_ble_eq_true rfl) (fun _ _ h => h.elim) ?_
      rintro _ _ _ ⟨rfl, rfl⟩
      exact y_xout E F (by omega) (by omega) (⟨xs_0 (okP (no (fun q => by omega))).1, rfl⟩)
    · refine y_iload_n E dX1_margin_16 (by rfl) ?_
      refine y_iload_n E dX1_margin_17 (by rfl) ?_
      refine y_icmp_eq (tgt := 25) E dX1_margin_18 (by decide) (by omega) (by omega) (fun h18 => ?_) (fun h18 => ?_)
      · refine y_iconst E dX1_margin_25 ?_
        refine y_callS E dX1_margin_26 lk_X1_122 (c_X1_checkIndex_f) (by rfl) (by decide) (by omega) (by omega) rfl (Nat.le_of_ble_eq_true rfl) (fun _ _ h => h.elim) ?_
        rintro _ _ _ ⟨rfl, rfl⟩
        exact y_xout E F (by omega) (by omega) (⟨xs_0 (okP (no (fun q => by omega))).1, rfl⟩)
      · refine y_iconst E dX1_margin_21 ?_
        refine y_goto (tgt := 26) E dX1_margin_22 (by decide) ?_
        refine y_callS E dX1_margin_26 lk_X1_122 (c_X1_checkIndex_t) (by rfl) (by decide) (by omega) (by omega) rfl (Nat.le_of_ble_eq_true rfl) ?_ (fun _ _ _ h => h.elim)
        rintro _ _ ⟨rfl, rfl⟩
        first | refine y_ald_n E dX1_margin_29 (by rfl) ?_ | refine y_aload_n E dX1_margin_29 (by rfl) ?_
        refine y_get E dX1_margin_30 fl_X1_10_X1 (hx) (by rfl) ?_
        first | refine y_ald_n E dX1_margin_33 (by rfl) ?_ | refine y_aload_n E dX1_margin_33 (by rfl) ?_
        refine y_iload_n E dX1_margin_34 (by rfl) ?_
        refine y_callV E dX1_margin_35 lk_X1_189 (c_X1_at hx hI hS (t := t) (by omega) (by omega)) (by rfl) (hx) rfl (by decide) (by omega) (by omega) rfl (Nat.le_of_ble_eq_true rfl) ?_ (fun _ _ _ h => h.elim)
        rintro _ _ ⟨rfl, hG9⟩
        rw [hG9]
        clear hG9
        first | refine y_ald_n E dX1_margin_38 (by rfl) ?_ | refine y_aload_n E dX1_margin_38 (by rfl) ?_
        refine y_iload_n E dX1_margin_39 (by rfl) ?_
        refine y_callV E dX1_margin_40 lk_X1_189 (c_X1_at hx hI hS (t := o) (by omega) (by omega)) (by rfl) (hx) rfl (by decide) (by omega) (by omega) rfl (Nat.le_of_ble_eq_true rfl) ?_ (fun _ _ _ h => h.elim)
        rintro _ _ ⟨rfl, hG9⟩
        rw [hG9]
        clear hG9
        refine y_callV E dX1_margin_43 lk_X1_325 (c_X2_canSignal hB hI hS hL (t := t.toNat) (u := o.toNat) (by omega) (by omega)) (by rfl) (hst) rfl (by decide) (by omega) (by omega) rfl (Nat.le_of_ble_eq_true rfl) ?_ (fun _ _ _ h => h.elim)
        rintro _ _ ⟨rfl, hG9⟩
        rw [hG9]
        clear hG9
        rw [show ((t.toNat : Nat) : Int) = t by omega, show ((o.toNat : Nat) : Int) = o by omega]
        refine y_callS E dX1_margin_46 lk_X1_286 (c_X1_checkElement_b) (by rfl) (by decide) (by omega) (by omega) rfl (Nat.le_of_ble_eq_true rfl) ?_ ?_
        swap
        · rintro _ _ _ ⟨rfl, h46, rfl⟩
          exact y_xout E F (by omega) (by omega) (⟨xs_1 (okP (no2 ⟨by omega, by omega, by omega⟩ h46)).1, rfl⟩)
        rintro _ _ ⟨rfl, h46, rfl⟩
        first | refine y_ald_n E dX1_margin_49 (by rfl) ?_ | refine y_aload_n E dX1_margin_49 (by rfl) ?_
        refine y_get E dX1_margin_50 fl_X1_10_X1 (hx) (by rfl) ?_
        first | refine y_ald_n E dX1_margin_53 (by rfl) ?_ | refine y_aload_n E dX1_margin_53 (by rfl) ?_
        refine y_iload_n E dX1_margin_54 (by rfl) ?_
        refine y_callV E dX1_margin_55 lk_X1_189 (c_X1_at hx hI hS (t := t) (by omega) (by omega)) (by rfl) (hx) rfl (by decide) (by omega) (by omega) rfl (Nat.le_of_ble_eq_true rfl) ?_ (fun _ _ _ h => h.elim)
        rintro _ _ ⟨rfl, hG9⟩
        rw [hG9]
        clear hG9
        first | refine y_ald_n E dX1_margin_58 (by rfl) ?_ | refine y_aload_n E dX1_margin_58 (by rfl) ?_
        refine y_iload_n E dX1_margin_59 (by rfl) ?_
        refine y_callV E dX1_margin_60 lk_X1_189 (c_X1_at hx hI hS (t := o) (by omega) (by omega)) (by rfl) (hx) rfl (by decide) (by omega) (by omega) rfl (Nat.le_of_ble_eq_true rfl) ?_ (fun _ _ _ h => h.elim)
        rintro _ _ ⟨rfl, hG9⟩
        rw [hG9]
        clear hG9
        refine y_callV E dX1_margin_63 lk_X1_328 (c_X2_margin hI hS hL (t := t.toNat) (u := o.toNat) (by omega) (by omega) (by rw [show ((t.toNat : Nat) : Int) = t by omega]; exact h46.2.2.2.1)) (by rfl) (hst) rfl (by decide) (by omega) (by omega) rfl (Nat.le_of_ble_eq_true rfl) ?_ (fun _ _ _ h => h.elim)
        rintro _ _ ⟨rfl, hG9⟩
        rw [hG9]
        clear hG9
        rw [show ((t.toNat : Nat) : Int) = t by omega, show ((o.toNat : Nat) : Int) = o by omega]
        refine y_ireturn E F rfl rfl dX1_margin_66 (by omega) (by omega) ⟨ansI_i (yes ⟨by omega, by omega, by omega⟩ h46), rfl⟩
theorem c_X1_signals (hB : gB Γ G) (hC : isC Γ G N x C I S T) (hS : SH (T 5)) (hO : gOK G) (hL : LSW (T 5)) {t o : Int} (ht : inR t) (ho : inR o) : Ct_X1_signals Γ 6 12 66 [.ref x, .int (iI t), .int (iI o)] (G) (fun v G' => ansI v (q_sigA (T 5) t o) ∧ G' = G) (fun E G' => xs [eI, eN] (q_sigA (T 5) t o).1 E ∧ G' = G) := by
  refine y_start (lv0 := [some (.ref x), some (.int (iI t)), some (.int (iI o)), none]) (nm := "signals") (own := RX1) (by decide +kernel) rfl rfl (by exact Nat.le_of_ble_eq_true rfl) (by rfl) ?_
  intro Z Q E F
  have hx := hC.o
  have hI := hC.s
  have hst := hI.1
  have hn := hS.nt
  obtain ⟨w, hw⟩ : ∃ w, w = T 5 := ⟨_, rfl⟩
  rw [← hw] at hI hst hn hS ⊢
  rw [← hw] at hL
  have hid := hC.id.1.1
  have no : ¬ ((0 ≤ t ∧ t ≤ w 10 - 1) ∧ 0 ≤ o ∧ o ≤ w 10 - 1) → q_sigA w t o = (1, 0) := fun h => if_pos h
  have no2 : (0 ≤ t ∧ t ≤ w 10 - 1) ∧ 0 ≤ o ∧ o ≤ w 10 - 1 → dS w o t < 0 → q_sigA w t o = (2, 0) := fun h g => by unfold q_sigA; rw [if_neg (fun q => q h), if_pos g]
  have yes : (0 ≤ t ∧ t ≤ w 10 - 1) ∧ 0 ≤ o ∧ o ≤ w 10 - 1 → ¬ dS w o t < 0 → q_sigA w t o = (0, dS w o t) := fun h g => by unfold q_sigA; rw [if_neg (fun q => q h), if_neg g]
  first | refine y_ald_n E dX1_signals_0 (by rfl) ?_ | refine y_aload_n E dX1_signals_0 (by rfl) ?_
  refine y_iload_n E dX1_signals_1 (by rfl) ?_
  refine y_callV E dX1_signals_2 lk_X1_177 (c_X1_isTower hx hI hS ht) (by rfl) (hx) rfl (by decide) (by omega) (by omega) rfl (Nat.le_of_ble_eq_true rfl) ?_ (fun _ _ _ h => h.elim)
  rintro _ _ ⟨rfl, hG9⟩
  rw [hG9]
  clear hG9
  refine y_ifd_eq (tgt := 20) E dX1_signals_5 (by decide) (fun h5 => ?_) (fun h5 => ?_)
  · refine y_iconst E dX1_signals_20 ?_
    refine y_callS E dX1_signals_21 lk_X1_122 (c_X1_checkIndex_f) (by rfl) (by decide) (by omega) (by omega) rfl (Nat.le_of_ble_eq_true rfl) (fun _ _ h => h.elim) ?_
    rintro _ _ _ ⟨rfl, rfl⟩
    exact y_xout E F (by omega) (by omega) (⟨xs_0 (okP (no (fun q => by omega))).1, rfl⟩)
  · first | refine y_ald_n E dX1_signals_8 (by rfl) ?_ | refine y_aload_n E dX1_signals_8 (by rfl) ?_
    refine y_iload_n E dX1_signals_9 (by rfl) ?_
    refine y_callV E dX1_signals_10 lk_X1_177 (c_X1_isTower hx hI hS ho) (by rfl) (hx) rfl (by decide) (by omega) (by omega) rfl (Nat.le_of_ble_eq_true rfl) ?_ (fun _ _ _ h => h.elim)
    rintro _ _ ⟨rfl, hG9⟩
    rw [hG9]
    clear hG9
    refine y_ifd_eq (tgt := 20) E dX1_signals_13 (by decide) (fun h13 => ?_) (fun h13 => ?_)
    · refine y_iconst E dX1_signals_20 ?_
      refine y_callS E dX1_signals_21 lk_X1_122 (c_X1_checkIndex_f) (by rfl) (by decide) (by omega) (by omega) rfl (Nat.le_of_ble_eq_true rfl) (fun _ _ h => h.elim) ?_
      rintro _ _ _ ⟨rfl, rfl⟩
      exact y_xout E F (by omega) (by omega) (⟨xs_0 (okP (no (fun q => by omega))).1, rfl⟩)
    · refine y_iconst E dX1_signals_16 ?_
      refine y_goto (tgt := 21) E dX1_signals_17 (by decide) ?_
      refine y_callS E dX1_signals_21 lk_X1_122 (c_X1_checkIndex_t) (by rfl) (by decide) (by omega) (by omega) rfl (Nat.le_of_ble_eq_true rfl) ?_ (fun _ _ _ h => h.elim)
      rintro _ _ ⟨rfl, rfl⟩
      first | refine y_ald_n E dX1_signals_24 (by rfl) ?_ | refine y_aload_n E dX1_signals_24 (by rfl) ?_
      refine y_get E dX1_signals_25 fl_X1_10_X1 (hx) (by rfl) ?_
      first | refine y_ald_n E dX1_signals_28 (by rfl) ?_ | refine y_aload_n E dX1_signals_28 (by rfl) ?_
      refine y_iload_n E dX1_signals_29 (by rfl) ?_
      refine y_callV E dX1_signals_30 lk_X1_189 (c_X1_at hx hI hS (t := o) (by omega) (by omega)) (by rfl) (hx) rfl (by decide) (by omega) (by omega) rfl (Nat.le_of_ble_eq_true rfl) ?_ (fun _ _ _ h => h.elim)
      rintro _ _ ⟨rfl, hG9⟩
      rw [hG9]
      clear hG9
      refine y_callV E dX1_signals_33 lk_X1_332 (c_X2_signalsTo (0, 95) (by decide) (by decide) (by intro q; cases q) (by omega) hB hO.1 hI hS hL (t := o.toNat) (by omega)) (by rfl) (hst) rfl (by decide) (by omega) (by omega) rfl (Nat.le_of_ble_eq_true rfl) ?_ (fun _ _ _ h => h.elim)
      rintro _ G1 ⟨q, f, rfl, hq, hG1, hf⟩
      have hfa : G1 q = some (some (0, 95), aI 0 8 f) := by rw [hG1, gset_s]
      have hft := hf t (by omega) (by omega)
      rw [show ((o.toNat : Nat) : Int) = o by omega] at hft
      have hE : gExt G G1 := by rw [hG1]; exact gExt_n hq
      have hdr := dS_in (w := w) (o := o) (t := t) (by omega) (by omega)
      refine y_iload_n E dX1_signals_36 (by rfl) ?_
      refine y_iald E dX1_signals_37 (hfa) (by omega) ?_
      refine y_istore_n (j := 3) E dX1_signals_38 rfl (Nat.le_of_ble_eq_true rfl) ?_
      refine y_iload_n E dX1_signals_39 (by rfl) ?_
      refine y_if_lt (tgt := 47) E dX1_signals_40 (by decide) (by omega) (fun h40 => ?_) (fun h40 => ?_)
      · refine y_iconst E dX1_signals_47 ?_
        refine y_forget hE ?_
        refine y_callS E dX1_signals_48 lk_X1_286 (c_X1_checkElement_f) (by rfl) (by decide) (by omega) (by omega) rfl (Nat.le_of_ble_eq_true rfl) (fun _ _ h => h.elim) ?_
        rintro _ _ _ ⟨rfl, rfl⟩
        exact y_xout E F (by omega) (by omega) (⟨xs_1 (okP (no2 ⟨by omega, by omega⟩ (by omega))).1, rfl⟩)
      · refine y_iconst E dX1_signals_43 ?_
        refine y_goto (tgt := 48) E dX1_signals_44 (by decide) ?_
        refine y_forget hE ?_
        refine y_callS E dX1_signals_48 lk_X1_286 (c_X1_checkElement_t) (by rfl) (by decide) (by omega) (by omega) rfl (Nat.le_of_ble_eq_true rfl) ?_ (fun _ _ _ h => h.elim)
        rintro _ _ ⟨rfl, rfl⟩
        refine y_iload_n E dX1_signals_51 (by rfl) ?_
        refine y_ireturn E F rfl rfl dX1_signals_52 (by omega) (by omega) ⟨ansI_i (yes ⟨by omega, by omega⟩ (by omega)), rfl⟩
theorem c_X1_faultPosition (hx : G x = some (some (0, 1), coE C hc (T 24 0))) (hf : inR (T 24 0)) : Ct_X1_faultPosition Γ 3 1 6 [.ref x] (G) (fun v G' => ansI v (q_fault T) ∧ G' = G) (fun E G' => xs [eN] (q_fault T).1 E ∧ G' = G) := by
  refine y_start (lv0 := [some (.ref x)]) (nm := "faultPosition") (own := RX1) (by decide +kernel) rfl rfl (by exact Nat.le_of_ble_eq_true rfl) (by rfl) ?_
  intro Z Q E F
  have no : T 24 0 < 0 → q_fault T = (1, 0) := fun h => if_pos h
  have yes : ¬ T 24 0 < 0 → q_fault T = (0, T 24 0) := fun h => if_neg h
  first | refine y_ald_n E dX1_faultPosition_0 (by rfl) ?_ | refine y_aload_n E dX1_faultPosition_0 (by rfl) ?_
  refine y_get E dX1_faultPosition_1 fl_X1_33_X1 (hx) (by rfl) ?_
  refine y_if_lt (tgt := 11) E dX1_faultPosition_4 (by decide) (by omega) (fun h4 => ?_) (fun h4 => ?_)
  · refine y_iconst E dX1_faultPosition_11 ?_
    refine y_callS E dX1_faultPosition_12 lk_X1_286 (c_X1_checkElement_f) (by rfl) (by decide) (by omega) (by omega) rfl (Nat.le_of_ble_eq_true rfl) (fun _ _ h => h.elim) ?_
    rintro _ _ _ ⟨rfl, rfl⟩
    exact y_xout E F (by omega) (by omega) (⟨xs_0 (okP (no (by omega))).1, rfl⟩)
  · refine y_iconst E dX1_faultPosition_7 ?_
    refine y_goto (tgt := 12) E dX1_faultPosition_8 (by decide) ?_
    refine y_callS E dX1_faultPosition_12 lk_X1_286 (c_X1_checkElement_t) (by rfl) (by decide) (by omega) (by omega) rfl (Nat.le_of_ble_eq_true rfl) ?_ (fun _ _ _ h => h.elim)
    rintro _ _ ⟨rfl, rfl⟩
    first | refine y_ald_n E dX1_faultPosition_15 (by rfl) ?_ | refine y_aload_n E dX1_faultPosition_15 (by rfl) ?_
    refine y_get E dX1_faultPosition_16 fl_X1_33_X1 (hx) (by rfl) ?_
    refine y_ireturn E F rfl rfl dX1_faultPosition_19 (by omega) (by omega) ⟨ansI_i (yes (by omega)), rfl⟩
theorem c_X1_broken (hB : gB Γ G) (hx : G x = some (t0, coE C hc fp)) (hI : isST Γ G st (kSt C) S w) (hS : SH w) : Ct_X1_broken Γ 3 1 4 [.ref x] (G) (fun v G' => v = some (.int (iI (brkN w))) ∧ G' = G) (noX) := by
  refine y_start (lv0 := [some (.ref x), none, none, none]) (nm := "broken") (own := RX1) (by decide +kernel) rfl rfl (by exact Nat.le_of_ble_eq_true rfl) (by rfl) ?_
  intro Z Q E F
  have hst := hI.1
  have hn := hS.nt
  have hlen := twL_len S w
  have hal := hI.2.1
  obtain ⟨fal, hac⟩ := hal.c
  have loop : ∀ it, G it = none → ∀ i : Nat, ∀ (G1 : yH) (n : Int) (l3 : Option Value), gExt G G1 → isIT Γ G1 it (sTl S) (st, 1) (twL S w) i → (i : Int) ≤ w 10 → n = sumI (fun t => tw w t 5) i → Y Γ Z 1 4 Q G1 13 [some (.ref x), some (.int (iI n)), some (.ref it), l3] [] := by
    intro it h0
    refine loopDownN (w 10).toNat ?_
    intro i ih G1 n l3 hE hit hi hn2
    obtain ⟨fs, hitc⟩ := hit.c
    have hSt := fun h : (i : Int) < 8 => hS.t (t := (i : Int)) (by omega) h
    first | refine y_ald_n E dX1_broken_13 (by rfl) ?_ | refine y_aload_n E dX1_broken_13 (by rfl) ?_
    refine y_callF E dX1_broken_14 lk_X1_136_J24 (c_it_has hit (by omega)) (by rfl) (hitc) rfl (by decide) (by omega) (by omega) rfl (Nat.le_of_ble_eq_true rfl) ?_ (fun _ _ _ h => h.elim)
    rintro _ _ ⟨rfl, hG9⟩
    rw [hG9]
    clear hG9
    refine y_ifd_eq (tgt := 50) E dX1_broken_19 (by decide) (fun h19 => ?_) (fun h19 => ?_)
    · refine y_forget hE ?_
      refine y_iload_n E dX1_broken_50 (by rfl) ?_
      refine y_ireturn E F rfl rfl dX1_broken_51 (by omega) (by omega) ⟨rI (by rw [hn2, show (i : Int) = w 10 by omega]; rfl), rfl⟩
    · first | refine y_ald_n E dX1_broken_22 (by rfl) ?_ | refine y_aload_n E dX1_broken_22 (by rfl) ?_
      refine y_callF E dX1_broken_23 lk_X1_142_J24 (c_it_next hit (twL_at (by omega))) (by rfl) (hitc) rfl (by decide) (by omega) (by omega) rfl (Nat.le_of_ble_eq_true rfl) ?_ (fun _ _ _ h => h.elim)
      rintro _ _ ⟨rfl, hit2, vv, hG9⟩
      rw [hG9] at hit2 ⊢
      clear hG9
      have hE2 := gExt_w hE (some yT0, vv) h0
      have htw := isST_t (hI.e hB hE2) (t := i) (by omega)
      unfold twX twE at htw
      have hSt := hSt (by omega)
      refine y_ccast E dX1_broken_28 q1200 (htw) rfl (Or.inl rfl) ?_
      first | refine y_ast_n (j := 3) E dX1_broken_31 rfl (Nat.le_of_ble_eq_true rfl) ?_ | refine y_astore_n (j := 3) E dX1_broken_31 rfl (Nat.le_of_ble_eq_true rfl) ?_ | refine y_astore_n (j := 3) (r := none) E dX1_broken_31 rfl (Nat.le_of_ble_eq_true rfl) ?_
      refine y_iload_n E dX1_broken_32 (by rfl) ?_
      first | refine y_ald_n E dX1_broken_33 (by rfl) ?_ | refine y_aload_n E dX1_broken_33 (by rfl) ?_
      refine y_getN E dX1_broken_34 fl_X1_237_X6 (htw) (by rfl) ?_
      refine y_if_eq (tgt := 44) E dX1_broken_37 (by decide) (by omega) (fun h37 => ?_) (fun h37 => ?_)
      · refine y_iconst E dX1_broken_44 ?_
        refine y_iadd E dX1_broken_45 ?_
        refine y_istore_n (j := 1) E dX1_broken_46 rfl (Nat.le_of_ble_eq_true rfl) ?_
        refine y_goto (tgt := 13) E dX1_broken_47 (by decide) ?_
        exact ih (by omega) _ _ _ hE2 hit2 (by omega) (by show _ = sumI _ ((i : Int) + 1); rw [sumI_s (by omega), hn2]; show _ = _ + tw w i 5; omega)
      · refine y_iconst E dX1_broken_40 ?_
        refine y_goto (tgt := 45) E dX1_broken_41 (by decide) ?_
        refine y_iadd E dX1_broken_45 ?_
        refine y_istore_n (j := 1) E dX1_broken_46 rfl (Nat.le_of_ble_eq_true rfl) ?_
        refine y_goto (tgt := 13) E dX1_broken_47 (by decide) ?_
        exact ih (by omega) _ _ _ hE2 hit2 (by omega) (by show _ = sumI _ ((i : Int) + 1); rw [sumI_s (by omega), hn2]; show _ = _ + tw w i 5; omega)
  refine y_iconst E dX1_broken_0 ?_
  refine y_istore_n (j := 1) E dX1_broken_1 rfl (Nat.le_of_ble_eq_true rfl) ?_
  first | refine y_ald_n E dX1_broken_2 (by rfl) ?_ | refine y_aload_n E dX1_broken_2 (by rfl) ?_
  refine y_get E dX1_broken_3 fl_X1_10_X1 (hx) (by rfl) ?_
  refine y_getN E dX1_broken_6 fl_X1_78_X2 (hst) (by rfl) ?_
  refine y_callV E dX1_broken_9 lk_X1_132 (c_it_new hB hal) (by rfl) (hac) rfl (by decide) (by omega) (by omega) rfl (Nat.le_of_ble_eq_true rfl) ?_ (fun _ _ _ h => h.elim)
  rintro _ G1 ⟨it, vv, rfl, h0, hit, hG9⟩
  first | refine y_ast_n (j := 2) E dX1_broken_12 rfl (Nat.le_of_ble_eq_true rfl) ?_ | refine y_astore_n (j := 2) E dX1_broken_12 rfl (Nat.le_of_ble_eq_true rfl) ?_ | refine y_astore_n (j := 2) (r := none) E dX1_broken_12 rfl (Nat.le_of_ble_eq_true rfl) ?_
  exact loop it h0 0 G1 0 _ (by rw [hG9]; exact gExt_n h0) hit (by omega) (sumI_0 _).symm
theorem c_X1_scrapped (hB : gB Γ G) (hx : G x = some (t0, coE C hc fp)) (hI : isST Γ G st (kSt C) S w) (hS : SH w) : Ct_X1_scrapped Γ 3 1 4 [.ref x] (G) (fun v G' => v = some (.int (iI (sumI (fun l => b2i (dB (lw w l 2 = -2))) (w 11)))) ∧ G' = G) (noX) := by
  refine y_start (lv0 := [some (.ref x), none, none, none]) (nm := "scrapped") (own := RX1) (by decide +kernel) rfl rfl (by exact Nat.le_of_ble_eq_true rfl) (by rfl) ?_
  intro Z Q E F
  have hst := hI.1
  have hn := hS.nt
  have hlen := lnL_len S w
  have hal := hI.2.2.1
  obtain ⟨fal, hac⟩ := hal.c
  have loop : ∀ it, G it = none → ∀ i : Nat, ∀ (G1 : yH) (n : Int) (l3 : Option Value), gExt G G1 → isIT Γ G1 it (sLl S) (st, 2) (lnL S w) i → (i : Int) ≤ w 11 → n = sumI (fun l => b2i (dB (lw w l 2 = -2))) i → Y Γ Z 1 4 Q G1 13 [some (.ref x), some (.int (iI n)), some (.ref it), l3] [] := by
    intro it h0
    refine loopDownN (w 11).toNat ?_
    intro i ih G1 n l3 hE hit hi hn2
    obtain ⟨fs, hitc⟩ := hit.c
    first | refine y_ald_n E dX1_scrapped_13 (by rfl) ?_ | refine y_aload_n E dX1_scrapped_13 (by rfl) ?_
    refine y_callF E dX1_scrapped_14 lk_X1_136_J24 (c_it_has hit (by omega)) (by rfl) (hitc) rfl (by decide) (by omega) (by omega) rfl (Nat.le_of_ble_eq_true rfl) ?_ (fun _ _ _ h => h.elim)
    rintro _ _ ⟨rfl, hG9⟩
    rw [hG9]
    clear hG9
    refine y_ifd_eq (tgt := 50) E dX1_scrapped_19 (by decide) (fun h19 => ?_) (fun h19 => ?_)
    · refine y_forget hE ?_
      refine y_iload_n E dX1_scrapped_50 (by rfl) ?_
      refine y_ireturn E F rfl rfl dX1_scrapped_51 (by omega) (by omega) ⟨rI (by rw [hn2, show (i : Int) = w 11 by omega]), rfl⟩
    · first | refine y_ald_n E dX1_scrapped_22 (by rfl) ?_ | refine y_aload_n E dX1_scrapped_22 (by rfl) ?_
      refine y_callF E dX1_scrapped_23 lk_X1_142_J24 (c_it_next hit (lnL_at (by omega))) (by rfl) (hitc) rfl (by decide) (by omega) (by omega) rfl (Nat.le_of_ble_eq_true rfl) ?_ (fun _ _ _ h => h.elim)
      rintro _ _ ⟨rfl, hit2, vv, hG9⟩
      rw [hG9] at hit2 ⊢
      clear hG9
      have hE2 := gExt_w hE (some yT0, vv) h0
      have htw := isST_l (hI.e hB hE2) (l := i) (by omega)
      unfold lnX lnE at htw
      rw [← dB_d] at htw
      refine y_ccast E dX1_scrapped_28 q1327 (htw) rfl (Or.inl rfl) ?_
      first | refine y_ast_n (j := 3) E dX1_scrapped_31 rfl (Nat.le_of_ble_eq_true rfl) ?_ | refine y_astore_n (j := 3) E dX1_scrapped_31 rfl (Nat.le_of_ble_eq_true rfl) ?_ | refine y_astore_n (j := 3) (r := none) E dX1_scrapped_31 rfl (Nat.le_of_ble_eq_true rfl) ?_
      refine y_iload_n E dX1_scrapped_32 (by rfl) ?_
      first | refine y_ald_n E dX1_scrapped_33 (by rfl) ?_ | refine y_aload_n E dX1_scrapped_33 (by rfl) ?_
      refine y_getN E dX1_scrapped_34 fl_X1_266_X5 (htw) (by rfl) ?_
      refine y_ifb_eq (tgt := 44) E dX1_scrapped_37 (by decide) (fun h37 => ?_) (fun h37 => ?_)
      · refine y_iconst E dX1_scrapped_44 ?_
        refine y_iadd E dX1_scrapped_45 ?_
        refine y_istore_n (j := 1) E dX1_scrapped_46 rfl (Nat.le_of_ble_eq_true rfl) ?_
        refine y_goto (tgt := 13) E dX1_scrapped_47 (by decide) ?_
        exact ih (by omega) _ _ _ hE2 hit2 (by omega) (by show _ = sumI _ ((i : Int) + 1); rw [sumI_s (by omega), hn2, h37]; rfl)
      · refine y_iconst E dX1_scrapped_40 ?_
        refine y_goto (tgt := 45) E dX1_scrapped_41 (by decide) ?_
        refine y_iadd E dX1_scrapped_45 ?_
        refine y_istore_n (j := 1) E dX1_scrapped_46 rfl (Nat.le_of_ble_eq_true rfl) ?_
        refine y_goto (tgt := 13) E dX1_scrapped_47 (by decide) ?_
        exact ih (by omega) _ _ _ hE2 hit2 (by omega) (by show _ = sumI _ ((i : Int) + 1); rw [sumI_s (by omega), hn2, h37]; rfl)
  refine y_iconst E dX1_scrapped_0 ?_
  refine y_istore_n (j := 1) E dX1_scrapped_1 rfl (Nat.le_of_ble_eq_true rfl) ?_
  first | refine y_ald_n E dX1_scrapped_2 (by rfl) ?_ | refine y_aload_n E dX1_scrapped_2 (by rfl) ?_
  refine y_get E dX1_scrapped_3 fl_X1_10_X1 (hx) (by rfl) ?_
  refine y_getN E dX1_scrapped_6 fl_X1_167_X2 (hst) (by rfl) ?_
  refine y_callV E dX1_scrapped_9 lk_X1_132 (c_it_new hB hal) (by rfl) (hac) rfl (by decide) (by omega) (by omega) rfl (Nat.le_of_ble_eq_true rfl) ?_ (fun _ _ _ h => h.elim)
  rintro _ G1 ⟨it, vv, rfl, h0, hit, hG9⟩
  first | refine y_ast_n (j := 2) E dX1_scrapped_12 rfl (Nat.le_of_ble_eq_true rfl) ?_ | refine y_astore_n (j := 2) E dX1_scrapped_12 rfl (Nat.le_of_ble_eq_true rfl) ?_ | refine y_astore_n (j := 2) (r := none) E dX1_scrapped_12 rfl (Nat.le_of_ble_eq_true rfl) ?_
  exact loop it h0 0 G1 0 _ (by rw [hG9]; exact gExt_n h0) hit (by omega) (sumI_0 _).symm
theorem c_X1_power (hB : gB Γ G) (hx : G x = some (t0, coE C hc fp)) (hI : isST Γ G st (kSt C) S w) (hS : SH w) : Ct_X1_power Γ 3 1 4 [.ref x] (G) (fun v G' => v = some (.int (iI (powA w (-1)))) ∧ G' = G) (noX) := by
  refine y_start (lv0 := [some (.ref x), none, none, none]) (nm := "power") (own := RX1) (by decide +kernel) rfl rfl (by exact Nat.le_of_ble_eq_true rfl) (by rfl) ?_
  intro Z Q E F
  have hst := hI.1
  have hn := hS.nt
  have hlen := lnL_len S w
  have hal := hI.2.2.1
  obtain ⟨fal, hac⟩ := hal.c
  have loop : ∀ it, G it = none → ∀ i : Nat, ∀ (G1 : yH) (n : Int) (l3 : Option Value), gExt G G1 → isIT Γ G1 it (sLl S) (st, 2) (lnL S w) i → (i : Int) ≤ w 11 → n = sumI (fun l => if -1 ≤ lw w l 2 then lw w l 0 else 0) i → Y Γ Z 1 4 Q G1 13 [some (.ref x), some (.int (iI n)), some (.ref it), l3] [] := by
    intro it h0
    refine loopDownN (w 11).toNat ?_
    intro i ih G1 n l3 hE hit hi hn2
    obtain ⟨fs, hitc⟩ := hit.c
    have hSl := fun h : (i : Int) < 12 => hS.l (l := (i : Int)) (by omega) h
    first | refine y_ald_n E dX1_power_13 (by rfl) ?_ | refine y_aload_n E dX1_power_13 (by rfl) ?_
    refine y_callF E dX1_power_14 lk_X1_136_J24 (c_it_has hit (by omega)) (by rfl) (hitc) rfl (by decide) (by omega) (by omega) rfl (Nat.le_of_ble_eq_true rfl) ?_ (fun _ _ _ h => h.elim)
    rintro _ _ ⟨rfl, hG9⟩
    rw [hG9]
    clear hG9
    refine y_ifd_eq (tgt := 53) E dX1_power_19 (by decide) (fun h19 => ?_) (fun h19 => ?_)
    · refine y_forget hE ?_
      refine y_iload_n E dX1_power_53 (by rfl) ?_
      refine y_ireturn E F rfl rfl dX1_power_54 (by omega) (by omega) ⟨rI (by rw [hn2, show (i : Int) = w 11 by omega]; rfl), rfl⟩
    · first | refine y_ald_n E dX1_power_22 (by rfl) ?_ | refine y_aload_n E dX1_power_22 (by rfl) ?_
      refine y_callF E dX1_power_23 lk_X1_142_J24 (c_it_next hit (lnL_at (by omega))) (by rfl) (hitc) rfl (by decide) (by omega) (by omega) rfl (Nat.le_of_ble_eq_true rfl) ?_ (fun _ _ _ h => h.elim)
      rintro _ _ ⟨rfl, hit2, vv, hG9⟩
      rw [hG9] at hit2 ⊢
      clear hG9
      have hE2 := gExt_w hE (some yT0, vv) h0
      have htw := isST_l (hI.e hB hE2) (l := i) (by omega)
      unfold lnX lnE at htw
      rw [← dB_d] at htw
      have hSl := hSl (by omega)
      refine y_ccast E dX1_power_28 q1327 (htw) rfl (Or.inl rfl) ?_
      first | refine y_ast_n (j := 3) E dX1_power_31 rfl (Nat.le_of_ble_eq_true rfl) ?_ | refine y_astore_n (j := 3) E dX1_power_31 rfl (Nat.le_of_ble_eq_true rfl) ?_ | refine y_astore_n (j := 3) (r := none) E dX1_power_31 rfl (Nat.le_of_ble_eq_true rfl) ?_
      refine y_iload_n E dX1_power_32 (by rfl) ?_
      first | refine y_ald_n E dX1_power_33 (by rfl) ?_ | refine y_aload_n E dX1_power_33 (by rfl) ?_
      refine y_getN E dX1_power_34 fl_X1_266_X5 (htw) (by rfl) ?_
      refine y_ifb_eq (tgt := 44) E dX1_power_37 (by decide) (fun h37 => ?_) (fun h37 => ?_)
      · first | refine y_ald_n E dX1_power_44 (by rfl) ?_ | refine y_aload_n E dX1_power_44 (by rfl) ?_
        refine y_getN E dX1_power_45 fl_X1_263_X5 (htw) (by rfl) ?_
        refine y_iadd E dX1_power_48 ?_
        refine y_istore_n (j := 1) E dX1_power_49 rfl (Nat.le_of_ble_eq_true rfl) ?_
        refine y_goto (tgt := 13) E dX1_power_50 (by decide) ?_
        exact ih (by omega) _ _ _ hE2 hit2 (by omega) (by show _ = sumI _ ((i : Int) + 1); rw [sumI_s (by omega), hn2]; first | (rw [if_neg (by have := dB_iff.mp h37; omega)]; done) | (rw [if_pos (by have := dB_nf.mp h37; omega)]; done))
      · refine y_iconst E dX1_power_40 ?_
        refine y_goto (tgt := 48) E dX1_power_41 (by decide) ?_
        refine y_iadd E dX1_power_48 ?_
        refine y_istore_n (j := 1) E dX1_power_49 rfl (Nat.le_of_ble_eq_true rfl) ?_
        refine y_goto (tgt := 13) E dX1_power_50 (by decide) ?_
        exact ih (by omega) _ _ _ hE2 hit2 (by omega) (by show _ = sumI _ ((i : Int) + 1); rw [sumI_s (by omega), hn2]; first | (rw [if_neg (by have := dB_iff.mp h37; omega)]; done) | (rw [if_pos (by have := dB_nf.mp h37; omega)]; done))
  refine y_iconst E dX1_power_0 ?_
  refine y_istore_n (j := 1) E dX1_power_1 rfl (Nat.le_of_ble_eq_true rfl) ?_
  first | refine y_ald_n E dX1_power_2 (by rfl) ?_ | refine y_aload_n E dX1_power_2 (by rfl) ?_
  refine y_get E dX1_power_3 fl_X1_10_X1 (hx) (by rfl) ?_
  refine y_getN E dX1_power_6 fl_X1_167_X2 (hst) (by rfl) ?_
  refine y_callV E dX1_power_9 lk_X1_132 (c_it_new hB hal) (by rfl) (hac) rfl (by decide) (by omega) (by omega) rfl (Nat.le_of_ble_eq_true rfl) ?_ (fun _ _ _ h => h.elim)
  rintro _ G1 ⟨it, vv, rfl, h0, hit, hG9⟩
  first | refine y_ast_n (j := 2) E dX1_power_12 rfl (Nat.le_of_ble_eq_true rfl) ?_ | refine y_astore_n (j := 2) E dX1_power_12 rfl (Nat.le_of_ble_eq_true rfl) ?_ | refine y_astore_n (j := 2) (r := none) E dX1_power_12 rfl (Nat.le_of_ble_eq_true rfl) ?_
  exact loop it h0 0 G1 0 _ (by rw [hG9]; exact gExt_n h0) hit (by omega) (sumI_0 _).symm
theorem c_X1_fogs (hx : G x = some (t0, coE C hc fp)) (hI : isST Γ G st (kSt C) S w) (hS : SH w) : Ct_X1_fogs Γ 1 0 0 [.ref x] (G) (fun v G' => v = some (.int (iI (sumI (fun k => w (3 + k)) 7))) ∧ G' = G) (noX) := by
  refine y_start (lv0 := [some (.ref x), none, none, none, none, none]) (nm := "fogs") (own := RX1) (by decide +kernel) rfl rfl (by exact Nat.le_of_ble_eq_true rfl) (by rfl) ?_
  intro Z Q E F
  have hst := hI.1
  have hfg := hI.2.2.2.2.1
  have loop : ∀ i : Nat, ∀ (n : Int) (l5 : Option Value), (i : Int) ≤ 7 → n = sumI (fun k => w (3 + k)) i → Y Γ Z 0 0 Q G 16 [some (.ref x), some (.int (iI n)), some (.ref (sFg S)), some (.int (iI 7)), some (.int (iI (i : Int))), l5] [] := by
    refine loopDownN 7 ?_
    intro i ih n l5 hi hn2
    refine y_iload E dX1_fogs_16 (by rfl) ?_
    refine y_iload_n E dX1_fogs_18 (by rfl) ?_
    refine y_icmp_ge (tgt := 39) E dX1_fogs_19 (by decide) (by omega) (by omega) (fun h19 => ?_) (fun h19 => ?_)
    · refine y_iload_n E dX1_fogs_39 (by rfl) ?_
      refine y_ireturn E F rfl rfl dX1_fogs_40 (by omega) (by omega) ⟨rI (by rw [hn2, show (i : Int) = 7 by omega]), rfl⟩
    · first | refine y_ald_n E dX1_fogs_22 (by rfl) ?_ | refine y_aload_n E dX1_fogs_22 (by rfl) ?_
      refine y_iload E dX1_fogs_23 (by rfl) ?_
      refine y_iald E dX1_fogs_25 (hfg) (by omega) ?_
      rw [fgF_at (by omega)]
      refine y_istore E dX1_fogs_26 (Nat.le_of_ble_eq_true rfl) ?_
      refine y_iload_n E dX1_fogs_28 (by rfl) ?_
      refine y_iload E dX1_fogs_29 (by rfl) ?_
      refine y_iadd E dX1_fogs_31 ?_
      refine y_istore_n (j := 1) E dX1_fogs_32 rfl (Nat.le_of_ble_eq_true rfl) ?_
      refine y_iinc E dX1_fogs_33 (by rfl) ?_
      refine y_goto (tgt := 16) E dX1_fogs_36 (by decide) ?_
      exact ih (by omega) _ _ (by omega) (by show _ = sumI _ ((i : Int) + 1); rw [sumI_s (by omega), hn2])
  refine y_iconst E dX1_fogs_0 ?_
  refine y_istore_n (j := 1) E dX1_fogs_1 rfl (Nat.le_of_ble_eq_true rfl) ?_
  first | refine y_ald_n E dX1_fogs_2 (by rfl) ?_ | refine y_aload_n E dX1_fogs_2 (by rfl) ?_
  refine y_get E dX1_fogs_3 fl_X1_10_X1 (hx) (by rfl) ?_
  refine y_getN E dX1_fogs_6 fl_X1_246_X2 (hst) (by rfl) ?_
  first | refine y_ast_n (j := 2) E dX1_fogs_9 rfl (Nat.le_of_ble_eq_true rfl) ?_ | refine y_astore_n (j := 2) E dX1_fogs_9 rfl (Nat.le_of_ble_eq_true rfl) ?_ | refine y_astore_n (j := 2) (r := none) E dX1_fogs_9 rfl (Nat.le_of_ble_eq_true rfl) ?_
  first | refine y_ald_n E dX1_fogs_10 (by rfl) ?_ | refine y_aload_n E dX1_fogs_10 (by rfl) ?_
  refine y_alenI E dX1_fogs_11 (hfg) (by decide) ?_
  refine y_istore_n (j := 3) E dX1_fogs_12 rfl (Nat.le_of_ble_eq_true rfl) ?_
  refine y_iconst E dX1_fogs_13 ?_
  refine y_istore E dX1_fogs_14 (Nat.le_of_ble_eq_true rfl) ?_
  exact loop 0 0 _ (by omega) (sumI_0 _).symm
end X1q
