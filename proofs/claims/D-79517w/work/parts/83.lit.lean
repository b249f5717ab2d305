/-! ===== cells may be forgotten; State: how many are lit; reached places; mistakes ===== -/
section Fg
theorem gR_e {Γ : yG} {G0 G : yH} {H : Heap} (h : gExt G0 G) (a : gR Γ G H) : gR Γ G0 H := ⟨a.1, a.2.1, fun q v hv => a.2.2 q v (h q v hv)⟩
theorem y_forget {Γ : yG} {Z : yZ} {k n : Nat} {Q : State → Prop} {G0 G : yH} {pc : Nat} {lv : List (Option Value)} {st : List Value} (h : gExt G0 G) (K : Y Γ Z k n Q G0 pc lv st) : Y Γ Z k n Q G pc lv st := fun H locs ls a b c => K H locs ls (gR_e h a) b c
/-- no cell has the tag τ -/
def gF (τ : Nat × Nat) (G : yH) : Prop := ∀ q e, G q ≠ some (some τ, e)
theorem gK_F {τ : Nat × Nat} {G G' : yH} (h : gK (· = τ) G G') (hF : gF τ G) : gExt G G' := fun q v e => by
  obtain ⟨t, e2⟩ := v
  exact h q t e2 e (fun τ' hτ z => by subst z; subst hτ; exact hF q e2 e)
theorem gF_set {τ t : Nat × Nat} {G : yH} (h : gF τ G) {a : Nat} {e : yE} (hn : t ≠ τ) : gF τ (gset G a (some t, e)) := fun q e2 z => by
  by_cases d : q = a
  · subst d
    rw [gset_s] at z
    cases z
    exact hn rfl
  · rw [gset_n _ d] at z
    exact h q e2 z
def gOK (G : yH) : Prop := gF (0, 98) G ∧ gF (0, 97) G
theorem gOK_set {G : yH} (h : gOK G) {a : Nat} {e : yE} {t : Nat × Nat} (hn : t ≠ (0, 98) ∧ t ≠ (0, 97)) : gOK (gset G a (some t, e)) := ⟨gF_set h.1 hn.1, gF_set h.2 hn.2⟩
theorem gOK_it {G : yH} (h : gOK G) {a : Nat} {e : yE} : gOK (gset G a (some yT0, e)) := gOK_set h ⟨by decide, by decide⟩
/-- of the new heap, what was there and what has the tag τ -/
noncomputable def rst (τ : Nat × Nat) (G G' : yH) : yH := fun q => match G q with
  | some v => some v
  | none => match G' q with
    | some (some t, e) => if t = τ then some (some t, e) else none
    | _ => none
theorem rst_e {τ : Nat × Nat} {G G' : yH} (h : gExt G G') : gExt (rst τ G G') G' := fun q v e => by
  unfold rst at e
  split at e
  · rename_i w hw
    rw [← e]
    exact h q w hw
  · split at e
    · rename_i t e2 hw
      split at e
      · rw [← e]
        exact hw
      · cases e
    · cases e
theorem rst_g {τ : Nat × Nat} {G G' : yH} : gExt G (rst τ G G') := fun q v e => by
  unfold rst
  rw [e]
theorem rst_t {τ : Nat × Nat} {G G' : yH} (hF : gF τ G) (hE : gExt G G') {q : Nat} {e : yE} (h : G' q = some (some τ, e)) : rst τ G G' q = some (some τ, e) := by
  unfold rst
  cases hg : G q with
  | some v =>
    have := hE q v hg
    rw [h] at this
    cases this
    exact absurd hg (hF q e)
  | none =>
    simp only [h, if_true]
theorem rst_F {τ σ : Nat × Nat} {G G' : yH} (hs : gF σ G) (hn : τ ≠ σ) : gF σ (rst τ G G') := fun q e z => by
  unfold rst at z
  split at z
  · rename_i w hw
    rw [z] at hw
    exact hs q e hw
  · split at z
    · split at z
      · rename_i h
        cases z
        exact hn h.symm
      · cases z
    · cases z
theorem isBS_r {τ : Nat × Nat} {G G' : yH} (hF : gF τ G) (hE : gExt G G') {b : Nat} {P : Nat → Bool} (h : isBS G' τ b P) : isBS (rst τ G G') τ b P := by
  obtain ⟨q, f, u, y, h1, h2, h3⟩ := h
  exact ⟨q, f, u, y, rst_t hF hE h1, rst_t hF hE h2, h3⟩
end Fg
theorem bW_nz {P : Nat → Bool} : bW P 61 ≠ 0 ↔ ∃ p, p < 61 ∧ P p = true := by
  constructor
  · intro h
    apply Classical.byContradiction
    intro q
    refine h (bW_z.mpr (fun p hp => ?_))
    cases e : P p with
    | false => rfl
    | true => exact absurd ⟨p, hp, e⟩ q
  · rintro ⟨p, hp, e⟩ h
    rw [bW_z.mp h p hp] at e
    cases e
section X2b
variable {Γ : yG} {G : yH} {st a : Nat} {S : SA} {w : Int → Int}
set_option maxHeartbeats 4000000
theorem c_X2_lit (hB : gB Γ G) (hI : isST Γ G st a S w) (hS : SH w) : Ct_X2_lit Γ 3 1 4 [.ref a] (G) (fun v G' => v = some (.int (iI (litN w))) ∧ G' = G) (noX) := by
  refine y_start (lv0 := [some (.ref a), none, none, none]) (nm := "lit") (own := RX2) (by decide +kernel) rfl rfl (by exact Nat.le_of_ble_eq_true rfl) (by rfl) ?_
  intro Z Q E F
  have hst := hI.1
  have hn := hS.nt
  have hlen := twL_len S w
  have hal := hI.2.1
  obtain ⟨fal, hac⟩ := hal.c
  have loop : ∀ it, G it = none → ∀ i : Nat, ∀ (G1 : yH) (n : Int) (l3 : Option Value), gExt G G1 → isIT Γ G1 it (sTl S) (st, 1) (twL S w) i → (i : Int) ≤ w 10 → n = sumI (fun t => tw w t 4) i → Y Γ Z 1 4 Q G1 10 [some (.ref a), some (.int (iI n)), some (.ref it), l3] [] := by
    intro it h0
    refine loopDownN (w 10).toNat ?_
    intro i ih G1 n l3 hE hit hi hn2
    obtain ⟨fs, hitc⟩ := hit.c
    have hSt := fun h : (i : Int) < 8 => hS.t (t := (i : Int)) (by omega) h
    first | refine y_ald_n E dX2_lit_10 (by rfl) ?_ | refine y_aload_n E dX2_lit_10 (by rfl) ?_
    refine y_callF E dX2_lit_11 lk_X2_37_J24 (c_it_has hit (by omega)) (by rfl) (hitc) rfl (by decide) (by omega) (by omega) rfl (Nat.le_of_ble_eq_true rfl) ?_ (fun _ _ _ h => h.elim)
    rintro _ _ ⟨rfl, hG9⟩
    rw [hG9]
    clear hG9
    refine y_ifd_eq (tgt := 47) E dX2_lit_16 (by decide) (fun h16 => ?_) (fun h16 => ?_)
    · refine y_forget hE ?_
      refine y_iload_n E dX2_lit_47 (by rfl) ?_
      refine y_ireturn E F rfl rfl dX2_lit_48 (by omega) (by omega) ⟨rI (by rw [hn2, show (i : Int) = w 10 by omega]; rfl), rfl⟩
    · first | refine y_ald_n E dX2_lit_19 (by rfl) ?_ | refine y_aload_n E dX2_lit_19 (by rfl) ?_
      refine y_callF E dX2_lit_20 lk_X2_43_J24 (c_it_next hit (twL_at (by omega))) (by rfl) (hitc) rfl (by decide) (by omega) (by omega) rfl (Nat.le_of_ble_eq_true rfl) ?_ (fun _ _ _ h => h.elim)
      rintro _ _ ⟨rfl, hit2, vv, hG9⟩
      rw [hG9] at hit2 ⊢
      clear hG9
      have hE2 := gExt_w hE (some yT0, vv) h0
      have htw := isST_t (hI.e hB hE2) (t := i) (by omega)
      unfold twX twE at htw
      have hSt := hSt (by omega)
      refine y_ccast E dX2_lit_25 q1008 (htw) rfl (Or.inl rfl) ?_
      first | refine y_ast_n (j := 3) E dX2_lit_28 rfl (Nat.le_of_ble_eq_true rfl) ?_ | refine y_astore_n (j := 3) E dX2_lit_28 rfl (Nat.le_of_ble_eq_true rfl) ?_ | refine y_astore_n (j := 3) (r := none) E dX2_lit_28 rfl (Nat.le_of_ble_eq_true rfl) ?_
      refine y_iload_n E dX2_lit_29 (by rfl) ?_
      first | refine y_ald_n E dX2_lit_30 (by rfl) ?_ | refine y_aload_n E dX2_lit_30 (by rfl) ?_
      refine y_getN E dX2_lit_31 fl_X2_133_X6 (htw) (by rfl) ?_
      refine y_if_eq (tgt := 41) E dX2_lit_34 (by decide) (by omega) (fun h34 => ?_) (fun h34 => ?_)
      · refine y_iconst E dX2_lit_41 ?_
        refine y_iadd E dX2_lit_42 ?_
        refine y_istore_n (j := 1) E dX2_lit_43 rfl (Nat.le_of_ble_eq_true rfl) ?_
        refine y_goto (tgt := 10) E dX2_lit_44 (by decide) ?_
        exact ih (by omega) _ _ _ hE2 hit2 (by omega) (by show _ = sumI _ ((i : Int) + 1); rw [sumI_s (by omega), hn2]; show _ = _ + tw w i 4; omega)
      · refine y_iconst E dX2_lit_37 ?_
        refine y_goto (tgt := 42) E dX2_lit_38 (by decide) ?_
        refine y_iadd E dX2_lit_42 ?_
        refine y_istore_n (j := 1) E dX2_lit_43 rfl (Nat.le_of_ble_eq_true rfl) ?_
        refine y_goto (tgt := 10) E dX2_lit_44 (by decide) ?_
        exact ih (by omega) _ _ _ hE2 hit2 (by omega) (by show _ = sumI _ ((i : Int) + 1); rw [sumI_s (by omega), hn2]; show _ = _ + tw w i 4; omega)
  refine y_iconst E dX2_lit_0 ?_
  refine y_istore_n (j := 1) E dX2_lit_1 rfl (Nat.le_of_ble_eq_true rfl) ?_
  first | refine y_ald_n E dX2_lit_2 (by rfl) ?_ | refine y_aload_n E dX2_lit_2 (by rfl) ?_
  refine y_get E dX2_lit_3 fl_X2_12_X2 (hst) (by rfl) ?_
  refine y_callV E dX2_lit_6 lk_X2_33 (c_it_new hB hal) (by rfl) (hac) rfl (by decide) (by omega) (by omega) rfl (Nat.le_of_ble_eq_true rfl) ?_ (fun _ _ _ h => h.elim)
  rintro _ G1 ⟨it, vv, rfl, h0, hit, hG9⟩
  first | refine y_ast_n (j := 2) E dX2_lit_9 rfl (Nat.le_of_ble_eq_true rfl) ?_ | refine y_astore_n (j := 2) E dX2_lit_9 rfl (Nat.le_of_ble_eq_true rfl) ?_ | refine y_astore_n (j := 2) (r := none) E dX2_lit_9 rfl (Nat.le_of_ble_eq_true rfl) ?_
  exact loop it h0 0 G1 0 _ (by rw [hG9]; exact gExt_n h0) hit (by omega) (sumI_0 _).symm
/-- the places that a tower reaches, as a set -/
noncomputable def rchB (w : Int → Int) (t : Int) (p : Nat) : Bool := dB (rchP w t p)
theorem c_X2_reached (hB : gB Γ G) (hI : isST Γ G st a S w) (hS : SH w) (hL : LSW w) {t : Nat} (τ : Nat × Nat) (hF : gF τ G) (ht : (t : Int) < w 10) : Ct_X2_reached Γ 5 2 4 [.ref a, .ref (sTa S t)] (G) (fun v G' => ∃ b, v = some (.ref b) ∧ (∃ P : Nat → Bool, (∀ p : Nat, p < 61 → P p = rchB w t p) ∧ isBS G' τ b P) ∧ gExt G G' ∧ ∀ σ, σ ≠ τ → gF σ G → gF σ G') (noX) := by
  refine y_start (lv0 := [some (.ref a), some (.ref (sTa S t)), none, none]) (nm := "reached") (own := RX2) (by decide +kernel) rfl rfl (by exact Nat.le_of_ble_eq_true rfl) (by rfl) ?_
  intro Z Q E F
  have loop : ∀ b, ∀ p : Nat, ∀ (G1 : yH) (P : Nat → Bool), gK (· = τ) G G1 → isBS G1 τ b P → (∀ q : Nat, P q = (decide (q < p) && rchB w t q)) → p ≤ 61 → Y Γ Z 2 4 Q G1 12 [some (.ref a), some (.ref (sTa S t)), some (.ref b), some (.int (iI p))] [] := by
    intro b
    refine loopDownN 61 ?_
    intro p ih G1 P hK hb hP hp
    have hE := gK_F hK hF
    have hB1 := hB.e hE
    have hI1 := hI.e hB hE
    have hst := hI1.1
    obtain ⟨fs, hbc⟩ := hb.c
    refine y_iload_n E dX2_reached_12 (by rfl) ?_
    refine y_bipush E dX2_reached_13 (by decide) ?_
    refine y_icmp_ge (tgt := 38) E dX2_reached_15 (by decide) (by omega) (by omega) (fun h15 => ?_) (fun h15 => ?_)
    · refine y_forget (rst_e (τ := τ) hE) ?_
      first | refine y_ald_n E dX2_reached_38 (by rfl) ?_ | refine y_aload_n E dX2_reached_38 (by rfl) ?_
      refine y_areturn (r := some b) E F rfl (Or.inl ⟨_, rfl⟩) dX2_reached_39 (by omega) (by omega) ⟨b, rfl, ⟨P, fun q hq => by rw [hP, decide_eq_true (by omega)]; rfl, isBS_r hF hE hb⟩, rst_g, fun σ hσ hs => rst_F hs hσ.symm⟩
    · first | refine y_ald_n E dX2_reached_18 (by rfl) ?_ | refine y_aload_n E dX2_reached_18 (by rfl) ?_
      first | refine y_ald_n E dX2_reached_19 (by rfl) ?_ | refine y_aload_n E dX2_reached_19 (by rfl) ?_
      refine y_iload_n E dX2_reached_20 (by rfl) ?_
      refine y_callV E dX2_reached_21 lk_X2_114 (c_X2_reaches (p := (p : Int)) hB1 hI1 hS hL ht (by omega)) (by rfl) (hst) rfl (by decide) (by omega) (by omega) rfl (Nat.le_of_ble_eq_true rfl) ?_ (fun _ _ _ h => h.elim)
      rintro _ _ ⟨rfl, hG9⟩
      rw [hG9]
      clear hG9
      refine y_ifd_eq (tgt := 32) E dX2_reached_24 (by decide) (fun h24 => ?_) (fun h24 => ?_)
      · refine y_iinc E dX2_reached_32 (by rfl) ?_
        refine y_goto (tgt := 12) E dX2_reached_35 (by decide) ?_
        first
          | (refine ih (by omega) G2 _ (gK_t hK hk2) hb2 (fun q => ?_) (by omega)
             rw [hP]
             by_cases e : q = p
             · subst e
               rw [show rchB w t q = true from dB_t h24]
               simp
             · rw [show decide (q < p + 1) = decide (q < p) from decide_eq_decide.mpr (by omega), decide_eq_false e, Bool.or_false])
          | (refine ih (by omega) G1 P hK hb (fun q => ?_) (by omega)
             rw [hP]
             by_cases e : q = p
             · subst e
               rw [show rchB w t q = false from dB_f h24]
               simp
             · rw [show decide (q < p + 1) = decide (q < p) from decide_eq_decide.mpr (by omega)])
      · first | refine y_ald_n E dX2_reached_27 (by rfl) ?_ | refine y_aload_n E dX2_reached_27 (by rfl) ?_
        refine y_iload_n E dX2_reached_28 (by rfl) ?_
        refine y_callV E dX2_reached_29 lk_X2_118 (c_J37_set hb (p := p) (by omega)) (by rfl) (hbc) rfl (by decide) (by omega) (by omega) rfl (Nat.le_of_ble_eq_true rfl) ?_ (fun _ _ _ h => h.elim)
        rintro _ G2 ⟨rfl, hb2, hk2⟩
        refine y_iinc E dX2_reached_32 (by rfl) ?_
        refine y_goto (tgt := 12) E dX2_reached_35 (by decide) ?_
        first
          | (refine ih (by omega) G2 _ (gK_t hK hk2) hb2 (fun q => ?_) (by omega)
             rw [hP]
             by_cases e : q = p
             · subst e
               rw [show rchB w t q = true from dB_t h24]
               simp
             · rw [show decide (q < p + 1) = decide (q < p) from decide_eq_decide.mpr (by omega), decide_eq_false e, Bool.or_false])
          | (refine ih (by omega) G1 P hK hb (fun q => ?_) (by omega)
             rw [hP]
             by_cases e : q = p
             · subst e
               rw [show rchB w t q = false from dB_f h24]
               simp
             · rw [show decide (q < p + 1) = decide (q < p) from decide_eq_decide.mpr (by omega)])
  refine y_new E τ dX2_reached_0 nw_X2_109 (by omega) (by omega) (fun q0 hq0 => ?_)
  refine y_dup E dX2_reached_3 rfl ?_
  refine y_bipush E dX2_reached_4 (by decide) ?_
  refine y_callI E dX2_reached_6 lk_X2_111 (c_J37_init (τ := τ) (gset_s _ _ _)) (by rfl) (by decide) (by omega) (by omega) rfl (Nat.le_of_ble_eq_true rfl) ?_ (fun _ _ _ h => h.elim)
  rintro _ G1 ⟨rfl, hb, hk⟩
  first | refine y_ast_n (j := 2) E dX2_reached_9 rfl (Nat.le_of_ble_eq_true rfl) ?_ | refine y_astore_n (j := 2) E dX2_reached_9 rfl (Nat.le_of_ble_eq_true rfl) ?_ | refine y_astore_n (j := 2) (r := none) E dX2_reached_9 rfl (Nat.le_of_ble_eq_true rfl) ?_
  refine y_iconst E dX2_reached_10 ?_
  refine y_istore_n (j := 3) E dX2_reached_11 rfl (Nat.le_of_ble_eq_true rfl) ?_
  exact loop q0 0 G1 _ (gK_t (gK_n _ hq0) hk) hb (fun q => by simp) (by omega)
theorem c_X2_areMistaken (hB : gB Γ G) (hI : isST Γ G st a S w) (hS : SH w) (hL : LSW w) (hU : UT w) {t u : Nat} (hO : gOK G) (ht : (t : Int) < w 10) (hu : (u : Int) < w 10) : Ct_X2_areMistaken Γ 6 4 8 [.ref a, .ref (sTa S t), .ref (sTa S u)] (G) (fun v G' => v = some (.int (iI (b2i (dB (mistP w t u))))) ∧ G' = G) (noX) := by
  refine y_start (lv0 := [some (.ref a), some (.ref (sTa S t)), some (.ref (sTa S u))]) (nm := "areMistaken") (own := RX2) (by decide +kernel) rfl rfl (by exact Nat.le_of_ble_eq_true rfl) (by rfl) ?_
  intro Z Q E F
  obtain ⟨hF, hF2⟩ := hO
  have hst := hI.1
  have hn := hS.nt
  have htw := isST_t hI ht
  have huw := isST_t hI hu
  have hSt := hS.t (t := (t : Int)) (by omega) (by omega)
  have hSu := hS.t (t := (u : Int)) (by omega) (by omega)
  have hPt := hU t (by omega) ht
  have hPu := hU u (by omega) hu
  obtain ⟨s, hs⟩ : ∃ s : Nat, tw w t 6 = s := ⟨(tw w t 6).toNat, by omega⟩
  obtain ⟨o, ho⟩ : ∃ s : Nat, tw w u 6 = s := ⟨(tw w u 6).toNat, by omega⟩
  obtain ⟨m, hm⟩ : ∃ s : Nat, tw w t 7 = s := ⟨(tw w t 7).toNat, by omega⟩
  unfold twX at htw huw
  rw [hs, hm] at htw
  rw [ho] at huw
  have hal : alikeP w t u ↔ tw w t 7 = tw w u 7 ∧ likeS s o m = true := by unfold alikeP; rw [hs, ho, hm]; simp only [Int.toNat_natCast]
  by_cases e7 : tw w u 7 = m
  · rw [e7] at huw
    have hm2 := hPt.1
    first | refine y_ald_n E dX2_areMistaken_0 (by rfl) ?_ | refine y_aload_n E dX2_areMistaken_0 (by rfl) ?_
    first | refine y_ald_n E dX2_areMistaken_1 (by rfl) ?_ | refine y_aload_n E dX2_areMistaken_1 (by rfl) ?_
    refine y_callV E dX2_areMistaken_2 lk_X2_121 (c_X6_isLike2 htw huw (by omega) (by omega) (by omega)) (by rfl) (htw) rfl (by decide) (by omega) (by omega) rfl (Nat.le_of_ble_eq_true rfl) ?_ (fun _ _ _ h => h.elim)
    rintro _ _ ⟨rfl, hG9⟩
    rw [hG9]
    clear hG9
    refine y_ifb_eq (tgt := 28) E dX2_areMistaken_5 (by decide) (fun h5 => ?_) (fun h5 => ?_)
    · first | refine y_forget (gExt_t hE1 hE2) ?_ | skip
      refine y_iconst E dX2_areMistaken_28 ?_
      refine y_ireturn E F rfl rfl dX2_areMistaken_29 (by omega) (by omega) ⟨by first | exact rT ⟨hal.mpr ⟨by omega, h5⟩, key.mp (of_decide_eq_true h21)⟩ | exact rF (fun q => of_decide_eq_false h21 (key.mpr q.2)) | exact rF (fun q => by have z := (hal.mp q.1).2; rw [h5] at z; cases z), rfl⟩
    · first | refine y_ald_n E dX2_areMistaken_8 (by rfl) ?_ | refine y_aload_n E dX2_areMistaken_8 (by rfl) ?_
      first | refine y_ald_n E dX2_areMistaken_9 (by rfl) ?_ | refine y_aload_n E dX2_areMistaken_9 (by rfl) ?_
      refine y_callV E dX2_areMistaken_10 lk_X2_125 (c_X2_reached hB hI hS hL (0, 98) hF ht) (by rfl) (hst) rfl (by decide) (by omega) (by omega) rfl (Nat.le_of_ble_eq_true rfl) ?_ (fun _ _ _ h => h.elim)
      rintro _ G1 ⟨b1, rfl, ⟨P1, hP1, hb1⟩, hE1, hg1⟩
      first | refine y_ald_n E dX2_areMistaken_13 (by rfl) ?_ | refine y_aload_n E dX2_areMistaken_13 (by rfl) ?_
      first | refine y_ald_n E dX2_areMistaken_14 (by rfl) ?_ | refine y_aload_n E dX2_areMistaken_14 (by rfl) ?_
      refine y_callV E dX2_areMistaken_15 lk_X2_125 (c_X2_reached (hB.e hE1) (hI.e hB hE1) hS hL (0, 97) (hg1 _ (by decide) hF2) hu) (by rfl) (hE1 _ _ hst) rfl (by decide) (by omega) (by omega) rfl (Nat.le_of_ble_eq_true rfl) ?_ (fun _ _ _ h => h.elim)
      rintro _ G2 ⟨b2, rfl, ⟨P2, hP2, hb2⟩, hE2, hg2⟩
      have hb1b := hb1.kk (gK_e (P := fun _ => False) hE2) id
      obtain ⟨fs1, hb1c⟩ := hb1b.c
      have key : (bW (fun j => P1 j && P2 j) 61 ≠ 0) ↔ ∃ p : Int, 0 ≤ p ∧ p < 61 ∧ rchP w t p ∧ rchP w u p := by
        rw [bW_nz]
        constructor
        · rintro ⟨p, p1, p2⟩
          rw [Bool.and_eq_true, hP1 p p1, hP2 p p1] at p2
          exact ⟨p, by omega, by omega, dB_iff.mp p2.1, dB_iff.mp p2.2⟩
        · rintro ⟨p, p0, p1, p2, p3⟩
          refine ⟨p.toNat, by omega, ?_⟩
          rw [Bool.and_eq_true, hP1 _ (by omega), hP2 _ (by omega)]
          unfold rchB
          rw [show ((p.toNat : Nat) : Int) = p by omega]
          exact ⟨dB_t p2, dB_t p3⟩
      refine y_callV E dX2_areMistaken_18 lk_X2_129 (c_J37_intersects hb1b hb2) (by rfl) (hb1c) rfl (by decide) (by omega) (by omega) rfl (Nat.le_of_ble_eq_true rfl) ?_ (fun _ _ _ h => h.elim)
      rintro _ _ ⟨rfl, hG9⟩
      rw [hG9]
      clear hG9
      refine y_ifb_eq (tgt := 28) E dX2_areMistaken_21 (by decide) (fun h21 => ?_) (fun h21 => ?_)
      · first | refine y_forget (gExt_t hE1 hE2) ?_ | skip
        refine y_iconst E dX2_areMistaken_28 ?_
        refine y_ireturn E F rfl rfl dX2_areMistaken_29 (by omega) (by omega) ⟨by first | exact rT ⟨hal.mpr ⟨by omega, h5⟩, key.mp (of_decide_eq_true h21)⟩ | exact rF (fun q => of_decide_eq_false h21 (key.mpr q.2)) | exact rF (fun q => by have z := (hal.mp q.1).2; rw [h5] at z; cases z), rfl⟩
      · refine y_forget (gExt_t hE1 hE2) ?_
        refine y_iconst E dX2_areMistaken_24 ?_
        refine y_goto (tgt := 29) E dX2_areMistaken_25 (by decide) ?_
        refine y_ireturn E F rfl rfl dX2_areMistaken_29 (by omega) (by omega) ⟨by first | exact rT ⟨hal.mpr ⟨by omega, h5⟩, key.mp (of_decide_eq_true h21)⟩ | exact rF (fun q => of_decide_eq_false h21 (key.mpr q.2)) | exact rF (fun q => by have z := (hal.mp q.1).2; rw [h5] at z; cases z), rfl⟩
  · first | refine y_ald_n E dX2_areMistaken_0 (by rfl) ?_ | refine y_aload_n E dX2_areMistaken_0 (by rfl) ?_
    first | refine y_ald_n E dX2_areMistaken_1 (by rfl) ?_ | refine y_aload_n E dX2_areMistaken_1 (by rfl) ?_
    refine y_callV E dX2_areMistaken_2 lk_X2_121 (c_X6_isLike_ne htw huw (by omega) (by omega) (by omega)) (by rfl) (htw) rfl (by decide) (by omega) (by omega) rfl (Nat.le_of_ble_eq_true rfl) ?_ (fun _ _ _ h => h.elim)
    rintro _ _ ⟨rfl, hG9⟩
    rw [hG9]
    clear hG9
    refine y_ifb_eq (tgt := 28) E dX2_areMistaken_5 (by decide) (fun h5 => ?_) (fun h5 => ?_)
    · refine y_iconst E dX2_areMistaken_28 ?_
      refine y_ireturn E F rfl rfl dX2_areMistaken_29 (by omega) (by omega) ⟨rF (fun q => e7 (by have z := (hal.mp q.1).1; omega)), rfl⟩
    · exact absurd h5 (by decide)
end X2b
