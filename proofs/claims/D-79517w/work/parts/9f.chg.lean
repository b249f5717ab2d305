/-! ===== the component: a change is noted; a refusal ===== -/
section Cg
variable {Γ : yG} {G : yH} {st a : Nat} {S : SA} {w : Int → Int}
/-- rows that agree -/
theorem isST_c (h : isST Γ G st a S w) {v : Int → Int} (hv : ∀ k, 0 ≤ k → k < 128 → v k = w k) (h10 : w 10 ≤ 8) (h11 : w 11 ≤ 12) (h12 : w 12 ≤ 12) : isST Γ G st a S v := by
  obtain ⟨h1, h2, h3, h4, h5, h6, h7⟩ := h
  have e10 : v 10 = w 10 := hv 10 (by omega) (by omega)
  have e11 : v 11 = w 11 := hv 11 (by omega) (by omega)
  have e12 : v 12 = w 12 := hv 12 (by omega) (by omega)
  refine ⟨?_, ?_, ?_, ?_, ?_, fun u hu => ?_, fun m hm => ?_⟩
  · rw [h1]
    unfold stE
    rw [hv 0 (by omega) (by omega), hv 1 (by omega) (by omega), hv 2 (by omega) (by omega)]
  · have : twL S v = twL S w := by unfold twL; rw [e10]
    rw [this]
    exact h2
  · have : lnL S v = lnL S w := by unfold lnL; rw [e11]
    rw [this]
    exact h3
  · rw [soL_c e12 (fun k k0 k1 => hv _ (by omega) (by omega))]
    exact h4
  · rw [h5, fgF_c (fun k k0 k1 => hv k (by omega) (by omega))]
  · rw [h6 u (by omega), twX_c (fun j j0 j1 => hv _ (by omega) (by omega))]
  · rw [h7 m (by omega), lnX_c (fun j j0 j1 => hv _ (by omega) (by omega))]
theorem isST_eq (h : isST Γ G st a S w) {v : Int → Int} (hv : eqR v w) (hS : SH w) : isST Γ G st a S v := by
  have hn := hS.nt
  exact isST_c h hv (by omega) (by omega) (by omega)
/-- the component's rows behind a change noted -/
def chH (T : Nat → Int → Int) : Nat → Int → Int := remT (upN T 8 (cpy (T 5) (T 8) 0 128))
theorem chH_n {T : Nat → Int → Int} {k : Nat} (h : k ≠ 6 ∧ k ≠ 8 ∧ k ≠ 9 ∧ k ≠ 10) : chH T k = T k := by
  unfold chH remT
  rw [upN_n _ (by omega), upN_n _ (by omega), upN_n _ (by omega), upN_n _ (by omega)]
theorem chH_9 {T : Nat → Int → Int} : chH T 9 0 = rch T + 1 := by
  unfold chH remT
  rw [upN_s]
  rfl
theorem chH_10 {T : Nat → Int → Int} : chH T 10 = rfc T := by
  unfold chH remT
  rw [upN_n _ (by decide), upN_n _ (by decide), upN_s]
  rfl
theorem chH_6 {T : Nat → Int → Int} : chH T 6 = cpy (cpy (T 5) (T 8) 0 128) (T 6) (128 * ((rfc T 0 + rch T) % 8)) 128 := by
  unfold chH remT
  rw [upN_n _ (by decide), upN_s]
  rfl
/-- a change of the twin, as the component's cells tell it -/
theorem chgT_c {T : Nat → Int → Int} {v : Int → Int} {k : Nat} (h : k ≠ 0 ∧ k ≠ 8) : chgT T v k = upN (chH T) 5 (stlS v) k := by
  by_cases e5 : k = 5
  · subst e5
    rw [upN_s]
    rfl
  · rw [upN_n _ e5]
    unfold chgT chH remT
    by_cases e9 : k = 9
    · subst e9
      rw [upN_s, upN_s]
      rfl
    · rw [upN_n _ e9, upN_n _ e9]
      by_cases e6 : k = 6
      · subst e6
        rw [upN_s, upN_s]
        rfl
      · rw [upN_n _ e6, upN_n _ e6]
        by_cases e10 : k = 10
        · subst e10
          rw [upN_s, upN_s]
          rfl
        · rw [upN_n _ e10, upN_n _ e10, upN_n _ e5, upN_n _ h.2, upN_n _ h.1, upN_n _ h.2]
theorem chgT_0 {T : Nat → Int → Int} {v : Int → Int} : chgT T v 0 0 = 0 := by
  unfold chgT remT
  rw [upN_n _ (by decide), upN_n _ (by decide), upN_n _ (by decide), upN_n _ (by decide), upN_n _ (by decide), upN_s]
/-- the history's rows -/
theorem kRow_up {T : Nat → Int → Int} (hn : 0 ≤ T 9 0 ∧ T 9 0 < 8 ∧ 0 ≤ T 10 0 ∧ T 10 0 ≤ 7) {k : Int} (hk : 0 ≤ k ∧ k < T 9 0) : kRow (chH T) k = kRow T k := by
  have e9 : rch T = T 9 0 := if_neg (by omega)
  have e10 : rfc T = T 10 := if_neg (by omega)
  funext j
  unfold kRow
  split
  · rw [chH_10, chH_6, e10, e9]
    unfold cpy
    rw [if_neg (by omega)]
  · rfl
theorem kRow_top {T : Nat → Int → Int} (hn : 0 ≤ T 9 0 ∧ T 9 0 ≤ 8 ∧ 0 ≤ T 10 0 ∧ T 10 0 ≤ 7) : eqR (kRow (chH T) (rch T)) (T 5) := fun j h0 h1 => by
  unfold kRow
  rw [if_pos ⟨h0, h1⟩, chH_10, chH_6]
  unfold cpy
  rw [if_pos (by omega), if_pos (by omega)]
  congr 1
  omega
theorem kRow_sh {T : Nat → Int → Int} (hn : T 9 0 = 8 ∧ 0 ≤ T 10 0 ∧ T 10 0 ≤ 7) {k : Int} (hk : 0 ≤ k ∧ k < 7) : kRow (chH T) k = kRow T (k + 1) := by
  have e9 : rch T = 7 := if_pos hn.1
  have e10 : rfc T 0 = (T 10 0 + 1) % 8 := by unfold rfc; rw [if_pos hn.1]
  funext j
  unfold kRow
  split
  · rw [chH_10, chH_6, e10, e9]
    unfold cpy
    rw [if_neg (by omega)]
    congr 1
    omega
  · rfl
end Cg
section Ch
variable {Γ : yG} {G : yH} {N x : Nat} {C : CF} {I : ID} {S : SA} {T : Nat → Int → Int}
theorem change_0 (hB : gB Γ G) (hC : isC Γ G N x C I S T) {G2 : yH} {P : Nat × Nat → Prop} (hk : gK P G G2) (hP : ∀ t, kTag N t → t ≠ (0, 2) → ¬ P t) {I' : ID} (e1 : I'.1 = I.1) (e2 : I'.2.1 = I.2.1) (hid : idOK (N + 1) I' (chH T 9 0)) (hh : cpH Γ G2 (kHi C) I'.2.2 (chH T 9 0) (kRow (chH T))) : isC Γ G2 (N + 1) x C I' S (chH T) := by
  have hi := hC.id
  have hn := hC.n
  have h0 : ∀ j, j ≤ 9 → j ≠ 2 → ¬ P (0, j) := fun j hj h2 => hP _ (Or.inl ⟨rfl, hj⟩) (fun e => by cases e; exact h2 rfl)
  have h2 : ∀ i, 2 ≤ i ∧ i ≤ N → ∀ j, ¬ P (i, j) := fun i hi j => hP _ (Or.inr hi) (fun e => by cases e; omega)
  refine ⟨?_, hid, ?_, ?_, ?_, hh, ?_, ?_, ?_, hC.d.kk hk (h0 7 (by decide) (by decide))⟩
  · have e : hcS (chH T) = hcS T := by unfold hcS; rw [chH_n (by decide)]
    rw [e, chH_n (k := 24) (by decide)]
    exact hk.at hC.o (h0 1 (by decide) (by decide))
  · rw [e1, chH_n (k := 5) (by decide)]
    exact hC.s.kk hB hk (h2 _ hi.1)
  · rw [e2, chH_n (k := 11) (by decide), chH_n (k := 7) (by decide)]
    exact hC.v.kk hB hk (h2 _ hi.2.1)
  · rw [chH_9, chH_10]
    unfold rch rfc
    split
    · have := hn
      refine ⟨by omega, by omega, ?_, ?_⟩ <;> show _ ≤ _ <;> omega
    · exact ⟨by omega, by omega, hn.2.2.1, hn.2.2.2⟩
  · rw [chH_n (k := 17) (by decide), chH_n (k := 15) (by decide)]
    exact hC.i.kk hk (h0 3 (by decide) (by decide))
  · rw [chH_n (k := 18) (by decide), chH_n (k := 16) (by decide)]
    exact hC.w.kk hk (h0 4 (by decide) (by decide))
  · rw [chH_n (k := 3) (by decide), chH_n (k := 4) (by decide)]
    exact hC.l.kk hB hk (h0 5 (by decide) (by decide)) (h0 6 (by decide) (by decide))
/-- the tags that a change touches -/
abbrev chP (N : Nat) (t : Nat × Nat) : Prop := t.1 = N + 1 ∨ t = yT0 ∨ t = (0, 2)
theorem chP_no {t : Nat × Nat} (h : kTag N t) (h2 : t ≠ (0, 2)) : ¬ chP N t := fun q => by
  rcases q with q | q | q
  · rcases h with h | h <;> omega
  · subst q
    rcases h with h | h
    · have h := h.2
      exact absurd h (by decide)
    · have h := h.1
      exact absurd h (by decide)
  · exact h2 q
theorem change_a (hB : gB Γ G) (hC : isC Γ G N x C I S T) (hS : SH (T 5)) {hs : Nat → Nat} (hrw : ∀ k : Nat, (k : Int) < T 9 0 → ∃ S, isST Γ G (I.2.2 k) (hs k) S (kRow T k)) {G1 G2 : yH} {b : Nat} {S' : SA} (hI1 : isST Γ G1 (N + 1) b S' (T 5)) (hk1 : gK (fun τ => τ.1 = N + 1 ∨ τ = yT0) G G1) (hll : isLL G2 (0, 2) (kHi C) (((List.range (T 9 0).toNat).map hs).map some ++ [some b])) (hk2 : gK (· = (0, 2)) G1 G2) (h8 : T 9 0 < 8) : ∃ I', I'.1 = I.1 ∧ isC Γ G2 (N + 1) x C I' S (chH T) := by
  have hi := hC.id
  have hn := hC.n
  have hk : gK (chP N) G G2 := gK_t (gK_m hk1 (fun t q => q.elim Or.inl (fun z => Or.inr (Or.inl z)))) (gK_m hk2 (fun t z => Or.inr (Or.inr z)))
  have e9 : rch T = T 9 0 := if_neg (by omega)
  refine ⟨(I.1, I.2.1, fun k => if k = (T 9 0).toNat then N + 1 else I.2.2 k), rfl, change_0 hB hC hk (fun t a b => chP_no a b) rfl rfl ?_ ?_⟩
  · rw [chH_9, e9]
    refine ⟨by have := hi.1; exact ⟨this.1, by omega⟩, by have := hi.2.1; exact ⟨this.1, by omega⟩, hi.2.2.1, fun k hk9 => ?_⟩
    by_cases e : k = (T 9 0).toNat
    · simp only [if_pos e]
      have a1 := hi.1
      have a2 := hi.2.1
      refine ⟨⟨by omega, by omega⟩, by omega, by omega, fun j hj => ?_⟩
      rw [if_neg (by omega)]
      have := (hi.2.2.2 j (by omega)).1
      omega
    · simp only [if_neg e]
      obtain ⟨b1, b2, b3, b4⟩ := hi.2.2.2 k (by omega)
      refine ⟨⟨b1.1, by omega⟩, b2, b3, fun j hj => ?_⟩
      rw [if_neg (by omega)]
      exact b4 j hj
  · rw [chH_9, e9]
    refine ⟨fun k => if k = (T 9 0).toNat then b else hs k, ?_, fun k hk9 => ?_⟩
    · rw [show (T 9 0 + 1).toNat = (T 9 0).toNat + 1 by omega, rg_up, List.map_append]
      exact hll
    · by_cases e : k = (T 9 0).toNat
      · simp only [if_pos e]
        have ht := kRow_top (T := T) (by omega)
        rw [e9, show T 9 0 = (k : Int) by omega] at ht
        exact ⟨S', isST_eq (hI1.kk (hB.kk hk1) hk2 (fun j q => by cases q)) ht hS⟩
      · simp only [if_neg e]
        obtain ⟨S2, h2⟩ := hrw k (by omega)
        rw [kRow_up (by omega) (by omega)]
        exact ⟨S2, h2.kk hB hk (fun j => chP_no (Or.inr (hi.2.2.2 k (by omega)).1) (fun e => by have := (hi.2.2.2 k (by omega)).1; cases e; omega))⟩
theorem hist_8 {n : Int} (h : n = 8) (hs : Nat → Nat) (b : Nat) : ∃ ys, ((List.range n.toNat).map hs).map some ++ [some b] = some (hs 0) :: ys ∧ ys = ((List.range 8).map (fun k => if k = 7 then b else hs (k + 1))).map some := by
  subst h
  exact ⟨_, rfl, rfl⟩
theorem change_b (hB : gB Γ G) (hC : isC Γ G N x C I S T) (hS : SH (T 5)) {hs : Nat → Nat} (hrw : ∀ k : Nat, (k : Int) < T 9 0 → ∃ S, isST Γ G (I.2.2 k) (hs k) S (kRow T k)) {G1 G2 : yH} {b : Nat} {S' : SA} (hI1 : isST Γ G1 (N + 1) b S' (T 5)) (hk1 : gK (fun τ => τ.1 = N + 1 ∨ τ = yT0) G G1) {ys : List (Option Nat)} (hll : isLL G2 (0, 2) (kHi C) ys) (hk2 : gK (· = (0, 2)) G1 G2) (h8 : T 9 0 = 8) (hys : ys = ((List.range 8).map (fun k => if k = 7 then b else hs (k + 1))).map some) : ∃ I', I'.1 = I.1 ∧ isC Γ G2 (N + 1) x C I' S (chH T) := by
  have hi := hC.id
  have hn := hC.n
  have hk : gK (chP N) G G2 := gK_t (gK_m hk1 (fun t q => q.elim Or.inl (fun z => Or.inr (Or.inl z)))) (gK_m hk2 (fun t z => Or.inr (Or.inr z)))
  have e9 : rch T = 7 := if_pos h8
  refine ⟨(I.1, I.2.1, fun k => if k = 7 then N + 1 else I.2.2 (k + 1)), rfl, change_0 hB hC hk (fun t a b => chP_no a b) rfl rfl ?_ ?_⟩
  · rw [chH_9, e9]
    refine ⟨by have := hi.1; exact ⟨this.1, by omega⟩, by have := hi.2.1; exact ⟨this.1, by omega⟩, hi.2.2.1, fun k hk9 => ?_⟩
    by_cases e : k = 7
    · simp only [if_pos e]
      have a1 := hi.1
      have a2 := hi.2.1
      refine ⟨⟨by omega, by omega⟩, by omega, by omega, fun j hj => ?_⟩
      rw [if_neg (by omega)]
      have := (hi.2.2.2 (j + 1) (by omega)).1
      omega
    · simp only [if_neg e]
      obtain ⟨b1, b2, b3, b4⟩ := hi.2.2.2 (k + 1) (by omega)
      refine ⟨⟨b1.1, by omega⟩, b2, b3, fun j hj => ?_⟩
      rw [if_neg (by omega)]
      exact b4 (j + 1) (by omega)
  · rw [chH_9, e9]
    refine ⟨fun k => if k = 7 then b else hs (k + 1), ?_, fun k hk9 => ?_⟩
    · rw [← hys]
      exact hll
    · by_cases e : k = 7
      · simp only [if_pos e]
        have ht := kRow_top (T := T) (by omega)
        rw [e9, show (7 : Int) = (k : Int) by omega] at ht
        exact ⟨S', isST_eq (hI1.kk (hB.kk hk1) hk2 (fun j q => by cases q)) ht hS⟩
      · simp only [if_neg e]
        obtain ⟨S2, h2⟩ := hrw (k + 1) (by omega)
        rw [kRow_sh (by omega) (by omega)]
        exact ⟨S2, h2.kk hB hk (fun j => chP_no (Or.inr (hi.2.2.2 (k + 1) (by omega)).1) (fun e => by have := (hi.2.2.2 (k + 1) (by omega)).1; cases e; omega))⟩
end Ch
section X1b
variable {Γ : yG} {G : yH} {N x : Nat} {C : CF} {I : ID} {S : SA} {T : Nat → Int → Int} {t0 : yT} {hc fp : Int}
theorem okR_r {q : Nat} {t : yT} {fs : List Value} (h : G q = some (t, .inr (0, fs))) : okR G "java/lang/Object" (some q) := fun v e => by cases e; exact ⟨_, 0, _, _, h, rfl, Or.inr q3092⟩
theorem okR_r0 {q : Nat} {t : yT} {fs : List Value} (h : G q = some (t, .inr (0, fs))) : okR G "SkerryLights$Refusal" (some q) := fun v e => by cases e; exact ⟨_, 0, _, _, h, rfl, Or.inl rfl⟩
theorem okR_0 {E : String} : okR G E none := fun v e => by cases e
set_option maxHeartbeats 4000000
theorem c_X1_refuse_n {q M : Nat} {f : Nat → Option Nat} {t1 : yT} (hq : G q = some (t1, aR 6 M f)) (h0 : f 0 = none) (hM : 0 < M ∧ M ≤ 60000) : Ct_X1_refuse Γ 2 0 0 [.ref x, .ref q] (G) (fun v G' => v = none ∧ G' = G) (noX) := by
  refine y_start (lv0 := [some (.ref x), some (.ref q), none, none, none, none]) (nm := "refuse") (own := RX1) (by decide +kernel) rfl rfl (by exact Nat.le_of_ble_eq_true rfl) (by rfl) ?_
  intro Z Q E F
  first | refine y_ald_n E dX1_refuse_0 (by rfl) ?_ | refine y_aload_n E dX1_refuse_0 (by rfl) ?_
  refine y_iconst E dX1_refuse_1 ?_
  refine y_aald E 6 rfl (by decide) dX1_refuse_2 (by assumption) (by omega) ?_
  refine y_top (v' := .null) (by rw [show f (0 : Int).toNat = none from h0]; rfl) ?_
  refine y_ifnonnull_n E dX1_refuse_3 ?_
  refine y_return E F rfl dX1_refuse_6 (by omega) (by omega) ⟨rfl, rfl⟩
theorem c_X1_refuse_t (hx : G x = some (some (0, 1), coE C hc fp)) (hB : gB Γ G) {l0 : List Nat} (hl : isAL Γ G (0, 5) (kLa C) l0) {q M : Nat} {f : Nat → Option Nat} {rs : Nat → Nat} {ra rb : Nat → Int} {κ κ2 : Nat × Nat} (hq : G q = some (some κ2, aR 6 M f)) (hM : 0 < M ∧ M ≤ 2) (hf : ∀ i, i < M → f i = some (rs i)) (hr : ∀ i, i < M → G (rs i) = some (some κ, rfE (ra i) (rb i))) (hκ : κ ≠ (0, 5) ∧ κ2 ≠ (0, 5)) : Ct_X1_refuse Γ 9 3 36 [.ref x, .ref q] (G) (fun v G' => False) (fun E G' => E = eU ∧ isAL Γ G' (0, 5) (kLa C) ((List.range M).map rs) ∧ gK (· = (0, 5)) G G') := by
  refine y_start (lv0 := [some (.ref x), some (.ref q), none, none, none, none]) (nm := "refuse") (own := RX1) (by decide +kernel) rfl rfl (by exact Nat.le_of_ble_eq_true rfl) (by rfl) ?_
  intro Z Q E F
  obtain ⟨flc, hlc⟩ := hl.c
  have hB0 := hB
  have loop : ∀ d i : Nat, ∀ (G1 : yH) (l5 : Option Value), i + d = M → isAL Γ G1 (0, 5) (kLa C) ((List.range i).map rs) → gK (· = (0, 5)) G G1 → Y Γ Z i (15 * i) Q G1 22 [some (.ref x), some (.ref q), some (.ref q), some (.int (iI (M : Int))), some (.int (iI (i : Int))), l5] [] := by
    intro d
    induction d with
    | zero =>
      intro i G1 l5 hi hl1 hk
      have hi : i = M := by omega
      subst hi
      refine y_iload E dX1_refuse_22 (by rfl) ?_
      refine y_iload_n E dX1_refuse_24 (by rfl) ?_
      refine y_icmp_ge (tgt := 50) E dX1_refuse_25 (by decide) (by omega) (by omega) (fun h25 => ?_) (fun h25 => ?_)
      · refine y_throw E F th_96_98 dX1_refuse_50 dX1_refuse_53 dX1_refuse_54 dX1_refuse_57 (by decide) (Nat.le_of_ble_eq_true rfl) (by omega) (by omega) ⟨rfl, hl1, hk⟩
      · (exfalso; omega)
    | succ d ih =>
      intro i G1 l5 hi hl1 hk
      have hx1 := hk.at hx (by decide)
      have hq1 := hk.at hq hκ.2
      have hr1 := hk.at (hr i (by omega)) hκ.1
      have hB1 := hB.kk hk
      obtain ⟨fl1, hlc1⟩ := hl1.c
      have hin : ((i : Int)).toNat = i := Int.toNat_natCast i
      have hok : ∀ y, y ∈ (List.range i).map rs → okR G1 "java/lang/Object" (some y) := fun y hy => by
        obtain ⟨j, h1, h2⟩ := List.mem_map.mp hy
        rw [List.mem_range] at h1
        subst h2
        exact okR_r (hk.at (hr j (by omega)) hκ.1)
      refine y_iload E dX1_refuse_22 (by rfl) ?_
      refine y_iload_n E dX1_refuse_24 (by rfl) ?_
      refine y_icmp_ge (tgt := 50) E dX1_refuse_25 (by decide) (by omega) (by omega) (fun h25 => ?_) (fun h25 => ?_)
      · (exfalso; omega)
      · first | refine y_ald_n E dX1_refuse_28 (by rfl) ?_ | refine y_aload_n E dX1_refuse_28 (by rfl) ?_
        refine y_iload E dX1_refuse_29 (by rfl) ?_
        refine y_aald E 6 rfl (by decide) dX1_refuse_31 (by assumption) (by omega) ?_
        refine y_top (v' := .ref (rs i)) (by rw [hin, hf i (by omega)]; rfl) ?_
        first | refine y_ast E dX1_refuse_32 (Nat.le_of_ble_eq_true rfl) ?_ | refine y_astore E dX1_refuse_32 (Nat.le_of_ble_eq_true rfl) ?_ | refine y_astore (r := none) E dX1_refuse_32 (Nat.le_of_ble_eq_true rfl) ?_
        first | refine y_ald_n E dX1_refuse_34 (by rfl) ?_ | refine y_aload_n E dX1_refuse_34 (by rfl) ?_
        refine y_get E dX1_refuse_35 fl_X1_40_X1 (hx1) (by rfl) ?_
        first | refine y_ald E dX1_refuse_38 (by rfl) ?_ | refine y_aload E dX1_refuse_38 (by rfl) ?_
        refine y_callV E dX1_refuse_40 lk_X1_92 (c_J2_add hl1 (by rw [List.length_map, List.length_range]; omega) hB1 hok (okR_r hr1)) (by rfl) (hlc1) rfl (by decide) (by omega) (by omega) rfl (Nat.le_of_ble_eq_true rfl) ?_ (fun _ _ _ h => h.elim)
        rintro _ G2 ⟨rfl, hl2, hk2⟩
        refine y_pop E dX1_refuse_43 rfl ?_
        refine y_iinc E dX1_refuse_44 (by rfl) ?_
        refine y_goto (tgt := 22) E dX1_refuse_47 (by decide) ?_
        refine y_widen (by omega) (by omega) (ih (i + 1) G2 _ (by omega) ?_ (gK_t hk hk2))
        rw [List.range_succ, List.map_append]
        exact hl2
  first | refine y_ald_n E dX1_refuse_0 (by rfl) ?_ | refine y_aload_n E dX1_refuse_0 (by rfl) ?_
  refine y_iconst E dX1_refuse_1 ?_
  refine y_aald E 6 rfl (by decide) dX1_refuse_2 (by assumption) (by omega) ?_
  refine y_top (v' := .ref (rs 0)) (by rw [show f (0 : Int).toNat = some (rs 0) from hf 0 hM.1]; rfl) ?_
  refine y_ifnonnull_r (tgt := 7) E dX1_refuse_3 (by decide) ?_
  first | refine y_ald_n E dX1_refuse_7 (by rfl) ?_ | refine y_aload_n E dX1_refuse_7 (by rfl) ?_
  refine y_get E dX1_refuse_8 fl_X1_40_X1 (hx) (by rfl) ?_
  refine y_callV E dX1_refuse_11 lk_X1_89 (c_J2_clear hl) (by rfl) (hlc) rfl (by decide) (by omega) (by omega) rfl (Nat.le_of_ble_eq_true rfl) ?_ (fun _ _ _ h => h.elim)
  rintro _ G1 ⟨rfl, hl1, hk1⟩
  have hq1 := hk1.at hq hκ.2
  first | refine y_ald_n E dX1_refuse_14 (by rfl) ?_ | refine y_aload_n E dX1_refuse_14 (by rfl) ?_
  first | refine y_ast_n (j := 2) E dX1_refuse_15 rfl (Nat.le_of_ble_eq_true rfl) ?_ | refine y_astore_n (j := 2) E dX1_refuse_15 rfl (Nat.le_of_ble_eq_true rfl) ?_ | refine y_astore_n (j := 2) (r := none) E dX1_refuse_15 rfl (Nat.le_of_ble_eq_true rfl) ?_
  first | refine y_ald_n E dX1_refuse_16 (by rfl) ?_ | refine y_aload_n E dX1_refuse_16 (by rfl) ?_
  refine y_alenR E dX1_refuse_17 hq1 (by decide) ?_
  refine y_istore_n (j := 3) E dX1_refuse_18 rfl (Nat.le_of_ble_eq_true rfl) ?_
  refine y_iconst E dX1_refuse_19 ?_
  refine y_istore E dX1_refuse_20 (Nat.le_of_ble_eq_true rfl) ?_
  exact y_widen (by omega) (by omega) (loop M 0 G1 _ (by omega) hl1 hk1)
theorem c_X1_change (hB : gB Γ G) (hO : gOK G) (hC : isC Γ G N x C I S T) (hS : SH (T 5)) (hL : LSW (T 5)) (hW : SW (T 5)) : Ct_X1_change Γ 10 61 496 [.ref x] (G) (fun v G' => v = none ∧ (∃ I', I'.1 = I.1 ∧ isC Γ G' (N + 1) x C I' S (chH T)) ∧ gK (chP N) G G' ∧ gOK G') (noX) := by
  refine y_start (lv0 := [some (.ref x)]) (nm := "change") (own := RX1) (by decide +kernel) rfl rfl (by exact Nat.le_of_ble_eq_true rfl) (by rfl) ?_
  intro Z Q E F
  have hx := hC.o
  have hI := hC.s
  have hst := hI.1
  have hid := hC.id
  have hn := hC.n
  obtain ⟨hs, hll, hrw⟩ := hC.h
  obtain ⟨flc, hlc⟩ := hll.c
  have h21 := hid.1.1
  have h2N := hid.1.2
  first | refine y_ald_n E dX1_change_0 (by rfl) ?_ | refine y_aload_n E dX1_change_0 (by rfl) ?_
  refine y_get E dX1_change_1 fl_X1_19_X1 (hx) (by rfl) ?_
  first | refine y_ald_n E dX1_change_4 (by rfl) ?_ | refine y_aload_n E dX1_change_4 (by rfl) ?_
  refine y_get E dX1_change_5 fl_X1_10_X1 (hx) (by rfl) ?_
  refine y_callV E dX1_change_8 lk_X1_99 (c_X2_copy (st' := N + 1) (by omega) (by omega) (by omega) hB hO hI hS hL hW) (by rfl) (hst) rfl (by decide) (by omega) (by omega) rfl (Nat.le_of_ble_eq_true rfl) ?_ (fun _ _ _ h => h.elim)
  rintro _ G1 ⟨⟨b, S', rfl, hI1⟩, hk1, hO1⟩
  have hll1 := hll.kk hk1 (by intro q; rcases q with q | q; · (have q : 0 = N + 1 := q; omega); · cases q)
  obtain ⟨flc1, hlc1⟩ := hll1.c
  have hlc := hlc1
  have hx1 := hk1.at hx (by intro q; rcases q with q | q; · (have q : 0 = N + 1 := q; omega); · cases q)
  have hx := hx1
  refine y_callV E dX1_change_11 lk_X1_103 (c_J4_addLast (x := some b) hll1) (by rfl) (hlc) rfl (by decide) (by omega) (by omega) rfl (Nat.le_of_ble_eq_true rfl) ?_ (fun _ _ _ h => h.elim)
  rintro _ G2' ⟨rfl, hll2', hk2'⟩
  obtain ⟨G2, he2, hk2, hk22, hO2⟩ := rs_all hk2' hO1 ⟨by decide, by decide⟩
  refine y_forget he2 ?_
  have hll2 := hll2'.kk hk22 (by simp)
  obtain ⟨flc2, hlc2⟩ := hll2.c
  have hlc := hlc2
  have hx := hk2.at hx1 (by decide)
  have hlen : ((((List.range (T 9 0).toNat).map hs).map some ++ [some b]).length : Int) = T 9 0 + 1 := by rw [List.length_append, List.length_map, List.length_map, List.length_range, List.length_singleton]; omega
  have hkk : gK (chP N) G G2 := gK_t (gK_m hk1 (fun t q => q.elim Or.inl (fun z => Or.inr (Or.inl z)))) (gK_m hk2 (fun t z => Or.inr (Or.inr z)))
  first | refine y_ald_n E dX1_change_14 (by rfl) ?_ | refine y_aload_n E dX1_change_14 (by rfl) ?_
  refine y_get E dX1_change_15 fl_X1_19_X1 (hx) (by rfl) ?_
  refine y_callV E dX1_change_18 lk_X1_107 (c_J4_size hll2) (by rfl) (hlc) rfl (by decide) (by omega) (by omega) rfl (Nat.le_of_ble_eq_true rfl) ?_ (fun _ _ _ h => h.elim)
  rintro _ _ ⟨rfl, hG9⟩
  rw [hG9]
  clear hG9
  rw [hlen]
  refine y_bipush E dX1_change_21 (by decide) ?_
  refine y_icmp_le (tgt := 34) E dX1_change_23 (by decide) (by omega) (by omega) (fun h23 => ?_) (fun h23 => ?_)
  · refine y_return E F rfl dX1_change_34 (by omega) (by omega) (by first
        | exact ⟨rfl, change_b hB hC hS hrw hI1 hk1 hll4 (gK_t hk2 hk3) (by omega) hxl, gK_t hkk (gK_m hk3 (fun t z => Or.inr (Or.inr z))), hO3⟩
        | exact ⟨rfl, change_a hB hC hS hrw hI1 hk1 hll2 hk2 (by omega), hkk, hO2⟩)
  · first | refine y_ald_n E dX1_change_26 (by rfl) ?_ | refine y_aload_n E dX1_change_26 (by rfl) ?_
    refine y_get E dX1_change_27 fl_X1_19_X1 (hx) (by rfl) ?_
    obtain ⟨xs9, hxs, hxl⟩ := hist_8 (show T 9 0 = 8 by omega) hs b
    rw [hxs] at hll2
    have hll3 := hll2
    refine y_callV E dX1_change_30 lk_X1_108 (c_J4_removeFirst hll3) (by rfl) (hlc) rfl (by decide) (by omega) (by omega) rfl (Nat.le_of_ble_eq_true rfl) ?_ (fun _ _ _ h => h.elim)
    rintro _ G3' ⟨rfl, hll4', hk3'⟩
    obtain ⟨G3, he3, hk3, hk33, hO3⟩ := rs_all hk3' hO2 ⟨by decide, by decide⟩
    refine y_forget he3 ?_
    have hll4 := hll4'.kk hk33 (by simp)
    refine y_pop E dX1_change_33 rfl ?_
    refine y_return E F rfl dX1_change_34 (by omega) (by omega) (by first
        | exact ⟨rfl, change_b hB hC hS hrw hI1 hk1 hll4 (gK_t hk2 hk3) (by omega) hxl, gK_t hkk (gK_m hk3 (fun t z => Or.inr (Or.inr z))), hO3⟩
        | exact ⟨rfl, change_a hB hC hS hrw hI1 hk1 hll2 hk2 (by omega), hkk, hO2⟩)
end X1b
