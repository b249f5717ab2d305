/-! ===== Reader: all of a text ===== -/
section Rr
variable {G : yH} {T : Nat → Int → Int} {cs : List Int} {p b : Int}
abbrev CM : Type := Int × Int × Int × Int
/-- commands are read: the place, the fault, the commands -/
def rdC (T : Nat → Int → Int) : Nat → Int → Int × Int × List (Option CM)
  | 0, p => (p, 0, [])
  | f + 1, p => if (tkS T 59 (coS T p).1 (coS T p).2.1).2 = 1 then ((rdC T f (tkS T 59 (coS T p).1 (coS T p).2.1).1).1, (rdC T f (tkS T 59 (coS T p).1 (coS T p).2.1).1).2.1, (coS T p).2.2 :: (rdC T f (tkS T 59 (coS T p).1 (coS T p).2.1).1).2.2) else ((tkS T 59 (coS T p).1 (coS T p).2.1).1, (coS T p).2.1, [(coS T p).2.2])
def rdL (T : Nat → Int → Int) (p : Int) : Int := if p < T 17 0 then 1 else 0
/-- the cells of the commands -/
def cmOK (G : yH) (qs : List (Option Nat)) (cs : List (Option CM)) : Prop := qs.length = cs.length ∧ ∀ (i : Nat) (k : CM), cs[i]? = some (some k) → ∃ q, qs[i]? = some (some q) ∧ G q = some (some (0, 92), cmE k.1 k.2.1 k.2.2.1 k.2.2.2)
theorem cmOK.kk {P : Nat × Nat → Prop} {G G' : yH} {qs : List (Option Nat)} {cs : List (Option CM)} (h : cmOK G qs cs) (hk : gK P G G') (hP : ¬ P (0, 92)) : cmOK G' qs cs := ⟨h.1, fun i k e => by
  obtain ⟨q, h1, h2⟩ := h.2 i k e
  exact ⟨q, h1, hk.at h2 hP⟩⟩
theorem cmOK.add {qs : List (Option Nat)} {cs : List (Option CM)} (h : cmOK G qs cs) {qo : Option Nat} {c : Option CM} (hc : ∀ k, c = some k → ∃ q, qo = some q ∧ G q = some (some (0, 92), cmE k.1 k.2.1 k.2.2.1 k.2.2.2)) : cmOK G (qs ++ [qo]) (cs ++ [c]) := ⟨by rw [List.length_append, List.length_append, h.1]; rfl, fun i k e => by
  by_cases d : i < cs.length
  · rw [List.getElem?_append_left d] at e
    obtain ⟨q, h1, h2⟩ := h.2 i k e
    exact ⟨q, by rw [List.getElem?_append_left (by rw [h.1]; exact d)]; exact h1, h2⟩
  · by_cases d2 : i = cs.length
    · subst d2
      rw [List.getElem?_append_right (Nat.le_refl _), Nat.sub_self] at e
      have e : c = some k := by simpa using e
      obtain ⟨q, h1, h2⟩ := hc k e
      refine ⟨q, ?_, h2⟩
      rw [List.getElem?_append_right (by omega), ← h.1, Nat.sub_self, h1]
      rfl
    · rw [List.getElem?_eq_none (by rw [List.length_append, List.length_singleton]; omega)] at e
      cases e⟩
theorem coK_f {G' : yH} {r x l : Nat} {τ : Nat × Nat} {v : Option Value} {c : Int × Int × Option CM} {e0 : yE} (h : coK G G' r x l τ (0, 92) v c) (hr : G r = some (some τ, e0)) : ∃ qo, v = some (va_rf qo) ∧ gK (· = τ) G G' ∧ G' r = some (some τ, rdE x l c.1 c.2.1) ∧ ∀ k, c.2.2 = some k → ∃ q, qo = some q ∧ G' q = some (some (0, 92), cmE k.1 k.2.1 k.2.2.1 k.2.2.2) := by
  obtain ⟨c1, c2, c3⟩ := c
  cases c3 with
  | none =>
    obtain ⟨h1, h2⟩ := h
    refine ⟨none, h1, ?_, ?_, fun k e => by cases e⟩
    · rw [h2]
      exact gK_w _ hr rfl
    · rw [h2, gset_s]
  | some k =>
    obtain ⟨q, h0, h1, h2⟩ := h
    have hrq : r ≠ q := g_nn hr h0
    refine ⟨some q, h1, ?_, ?_, fun k' e => ?_⟩
    · rw [h2]
      refine gK_t (gK_w _ hr rfl) (gK_n _ ?_)
      rw [gset_n _ (Ne.symm hrq)]
      exact h0
    · rw [h2, gset_n _ hrq, gset_s]
    · cases e
      refine ⟨q, rfl, ?_⟩
      rw [h2, gset_s]
theorem sgR_le : ∀ (f : Nat) (p m n : Int), p ≤ (sgR T f p m n).1
  | 0, p, m, n => Int.le_refl _
  | f + 1, p, m, n => by
    unfold sgR
    split
    · have := sgR_le f (p + 1) (2 * m + (if hrT T p = 42 then 1 else 0)) (n + 1)
      omega
    · exact Int.le_refl _
theorem ptR_le : p ≤ (ptR T p b).1 := by
  unfold ptR
  split
  · exact sgR_le 8 p 0 0
  · exact Int.le_refl _
theorem coS_in (hT : TX T cs) (hp : 0 ≤ p ∧ p ≤ 60) : (0 ≤ (coS T p).1 ∧ (coS T p).1 ≤ 60) ∧ ((coS T p).2.1 = 0 ∨ (coS T p).2.1 = 1) ∧ ((coS T p).2.1 = 0 → p + 2 ≤ (coS T p).1) := by
  unfold coS
  split
  · exact ⟨hp, Or.inr rfl, fun q => by cases q⟩
  · rename_i hc
    have hlt : p < T 17 0 := hr_lt (hi := 33) (by decide) (by unfold noC at hc; omega)
    have h17 := hT.1
    have h60 := hT.2.1
    have hp1 : 0 ≤ p + 1 ∧ p + 1 ≤ 60 := by omega
    split
    · have h1 := nuS_in (b := 0) hT hp1 (Or.inl rfl)
      refine ⟨h1.1, h1.2, fun q => ?_⟩
      have h2 := dgS_b (T := T) (hi := 57) (p := p + 1) (b := 0) (Or.inl rfl)
      show p + 2 ≤ (nuS T (p + 1) 0).1
      have q : (nuS T (p + 1) 0).2.1 = 0 := q
      unfold nuS at q ⊢
      split
      · rename_i h
        have h3 := (h2.2.2.2.2.2 h.1).2.2.2
        rw [h3]
        show p + 2 ≤ p + 1 + 1 + 1
        omega
      · rename_i h
        rw [if_neg h] at q
        have h3 := (h2.2.2.2.2.2 q).2.2.2
        rw [h3]
        show p + 2 ≤ p + 1 + 1
        omega
    · split
      · unfold cfS
        have d1 := dgS_in (b := 0) hT 54 hp1
        have d2 := dgS_b (T := T) (hi := 54) (p := p + 1) (b := 0) (Or.inl rfl)
        obtain ⟨d, hd⟩ : ∃ d, d = dgS T 54 (p + 1) 0 := ⟨_, rfl⟩
        rw [← hd] at d1 d2 ⊢
        have t1 := tkS_in (b := d.2.1) hT (c := 61) (by decide) d1
        have t2 : d.1 ≤ (tkS T 61 d.1 d.2.1).1 := by unfold tkS; split <;> simp only <;> omega
        obtain ⟨t, ht⟩ : ∃ t, t = tkS T 61 d.1 d.2.1 := ⟨_, rfl⟩
        rw [← ht] at t1 t2 ⊢
        have e1 := dgS_in (b := max d.2.1 (1 - t.2)) hT 57 t1.1
        have e2 := dgS_b (T := T) (hi := 57) (p := t.1) (b := max d.2.1 (1 - t.2)) (by omega)
        refine ⟨e1, e2.1, fun q => ?_⟩
        have e3 := e2.2.2.2.2.2 q
        have d3 := (d2.2.2.2.2.2 (by omega)).2.2.2
        show p + 2 ≤ (dgS T 57 t.1 (max d.2.1 (1 - t.2))).1
        have d4 : d.1 = p + 1 + 1 := by rw [d3]
        omega
      · have d1 := dgS_in (b := 0) hT 55 hp1
        have d2 := dgS_b (T := T) (hi := 55) (p := p + 1) (b := 0) (Or.inl rfl)
        obtain ⟨d, hd⟩ : ∃ d, d = dgS T 55 (p + 1) 0 := ⟨_, rfl⟩
        rw [← hd] at d1 d2 ⊢
        have d4 : d.2.1 = 0 → d.1 = p + 1 + 1 := fun q => by rw [(d2.2.2.2.2.2 q).2.2.2]
        split
        · unfold cqS
          have t1 := tkS_in (b := d.2.1) hT (c := 58) (by decide) d1
          have t2 : d.1 ≤ (tkS T 58 d.1 d.2.1).1 := by unfold tkS; split <;> simp only <;> omega
          obtain ⟨t, ht⟩ : ∃ t, t = tkS T 58 d.1 d.2.1 := ⟨_, rfl⟩
          rw [← ht] at t1 t2 ⊢
          have e1 := ptR_in (b := max d.2.1 (1 - t.2)) hT t1.1
          have e3 : t.1 ≤ (ptR T t.1 (max d.2.1 (1 - t.2))).1 := ptR_le
          have e2 := lt2_b (ptR T t.1 (max d.2.1 (1 - t.2))).2.2
          refine ⟨e1.1, ?_, fun q => ?_⟩
          · show max (max d.2.1 (1 - t.2)) (lt2 (ptR T t.1 (max d.2.1 (1 - t.2))).2.2) = 0 ∨ max (max d.2.1 (1 - t.2)) (lt2 (ptR T t.1 (max d.2.1 (1 - t.2))).2.2) = 1
            omega
          · have q : max (max d.2.1 (1 - t.2)) (lt2 (ptR T t.1 (max d.2.1 (1 - t.2))).2.2) = 0 := q
            show p + 2 ≤ (ptR T t.1 (max d.2.1 (1 - t.2))).1
            have := d4 (by omega)
            omega
        · exact ⟨d1, d2.1, fun q => by show p + 2 ≤ d.1; have := d4 q; omega⟩
end Rr
section X7d
variable {Γ : yG} {G : yH} {T : Nat → Int → Int} {cs : List Int} {r x : Nat} {τ σ : Nat × Nat}
set_option maxHeartbeats 4000000
theorem c_X7_init (hσ : σ ≠ τ ∧ σ ≠ (0, 91)) (hτ : τ ≠ (0, 91) ∧ τ ≠ (0, 92)) (hB : gB Γ G) (hr : G r = some (some τ, .inr (6, [.null, .null, .int (iI 0), .int (iI 0)]))) (hx : isStr G (some σ) x cs) (hT : TX T cs) : Ct_X7_init Γ 9 43 151 [.ref r, .ref x] (G) (fun v G' => v = none ∧ ∃ l qs, G' r = some (some τ, rdE x l (rdC T 21 0).1 (max (rdC T 21 0).2.1 (rdL T (rdC T 21 0).1))) ∧ isLL G' (0, 91) l qs ∧ cmOK G' qs (rdC T 21 0).2.2 ∧ gK (fun t => t = τ ∨ t = (0, 91)) G G') (noX) := by
  refine y_start (lv0 := [some (.ref r), some (.ref x)]) (nm := "<init>") (own := RX7) (by decide +kernel) rfl rfl (by exact Nat.le_of_ble_eq_true rfl) (by rfl) ?_
  intro Z Q E F
  have h17 := hT.1
  have h60 := hT.2.1
  have hr0 := hr
  have loop : ∀ l, ∀ f : Nat, ∀ (p : Int) (G1 : yH) (qs : List (Option Nat)) (dn : List (Option CM)), 0 ≤ p → p ≤ 60 → 3 * (dn.length : Int) ≤ p → f + dn.length = 21 → G1 r = some (some τ, rdE x l p 0) → isLL G1 (0, 91) l qs → cmOK G1 qs dn → gK (fun t => t = τ ∨ t = (0, 91)) G G1 → (rdC T 21 0 = ((rdC T f p).1, (rdC T f p).2.1, dn ++ (rdC T f p).2.2)) → Y Γ Z (1 + 2 * dn.length) (4 + 7 * dn.length) Q G1 20 [some (.ref r), some (.ref x)] [] := by
    intro l f
    induction f with
    | zero =>
      intro p G1 qs dn p0 p1 h3 hf
      omega
    | succ f ih =>
      intro p G1 qs dn p0 p1 h3 hf hr1 hll hcm hk hre
      have hB1 := hB.kk hk
      have hx1 := hx.kk hk (fun q => q.elim (fun z => hσ.1 z) (fun z => hσ.2 z))
      have hci := coS_in hT (p := p) ⟨p0, p1⟩
      obtain ⟨c, hc⟩ : ∃ c, c = coS T p := ⟨_, rfl⟩
      have t1i := tkS_in (b := (coS T p).2.1) hT (c := 59) (by decide) hci.1
      obtain ⟨t, ht⟩ : ∃ t, t = tkS T 59 (coS T p).1 (coS T p).2.1 := ⟨_, rfl⟩
      have tg : t.2 = 1 → c.2.1 = 0 ∧ t.1 = c.1 + 1 := fun e => by
        rw [ht] at e
        rw [hc, ht]
        unfold tkS at e ⊢
        split at e
        · rename_i h
          rw [if_pos h]
          exact ⟨h.1, rfl⟩
        · cases e
      have hrs : rdC T (f + 1) p = if t.2 = 1 then ((rdC T f t.1).1, (rdC T f t.1).2.1, c.2.2 :: (rdC T f t.1).2.2) else (t.1, c.2.1, [c.2.2]) := by rw [hc, ht]; rfl
      rw [hrs] at hre
      clear hrs
      first | refine y_ald_n E dX7_init_20 (by rfl) ?_ | refine y_aload_n E dX7_init_20 (by rfl) ?_
      refine y_get E dX7_init_21 fl_X7_12_X7 (hr1) (by rfl) ?_
      first | refine y_ald_n E dX7_init_24 (by rfl) ?_ | refine y_aload_n E dX7_init_24 (by rfl) ?_
      refine y_callV E dX7_init_25 lk_X7_22 (c_X7_command (0, 92) hσ.1 hB1 hr1 hx1 hT ⟨p0, p1⟩) (by rfl) (hr1) rfl (by decide) (by omega) (by omega) rfl (Nat.le_of_ble_eq_true rfl) ?_ (fun _ _ _ h => h.elim)
      rintro _ G2 hK
      obtain ⟨qo, rfl, hk2, hr2, hq2⟩ := coK_f hK hr1
      clear hK
      rw [← hc] at hr2 hq2 hci
      have hll2 := hll.kk hk2 (fun q => hτ.1 q.symm)
      have hcm2 := (hcm.kk hk2 (fun q => hτ.2 q.symm)).add hq2
      have hB2 := hB1.kk hk2
      have hx2 := hx1.kk hk2 hσ.1
      obtain ⟨flc, hlc⟩ := hll2.c
      refine y_callV E dX7_init_28 lk_X7_26 (c_J4_add (x := qo) hll2) (by rfl) (hlc) rfl (by decide) (by omega) (by omega) rfl (Nat.le_of_ble_eq_true rfl) ?_ (fun _ _ _ h => h.elim)
      rintro _ G3 ⟨rfl, hll3, hk3⟩
      have hr3 := hk3.at hr2 hτ.1
      have hcm3 := hcm2.kk hk3 (by decide)
      have hx3 := hx2.kk hk3 hσ.2
      have hkk : gK (fun t => t = τ ∨ t = (0, 91)) G G3 := gK_t hk (gK_t (gK_m hk2 (fun _ z => Or.inl z)) (gK_m hk3 (fun _ z => Or.inr z)))
      have hr1 := hr3
      refine y_pop E dX7_init_31 rfl ?_
      first | refine y_ald_n E dX7_init_32 (by rfl) ?_ | refine y_aload_n E dX7_init_32 (by rfl) ?_
      refine y_bipush E dX7_init_33 (by decide) ?_
      refine y_callV E dX7_init_35 lk_X7_30 (c_X7_takes (c := 59) (p := c.1) (b := c.2.1) hr3 hx3 hT hci.1 hci.2.1 (by omega)) (by rfl) (hr1) rfl (by decide) (by omega) (by omega) rfl (Nat.le_of_ble_eq_true rfl) ?_ (fun _ _ _ h => h.elim)
      rintro _ _ ⟨rfl, hG9⟩
      rw [hG9, hc, ← ht, ← hc]
      clear hG9
      have hk4 : gK (· = τ) G3 (gset G3 r (some τ, rdE x l t.1 c.2.1)) := gK_w _ hr3 rfl
      have hr4 := gset_s G3 r (some τ, rdE x l t.1 c.2.1)
      have hr1 := hr4
      have hll4 := hll3.kk hk4 (fun q => hτ.1 q.symm)
      have hcm4 := hcm3.kk hk4 (fun q => hτ.2 q.symm)
      have hx4 := hx3.kk hk4 hσ.1
      obtain ⟨fxc, hxc⟩ := hx4.c
      have hkk4 := gK_t hkk (gK_m hk4 (fun _ z => Or.inl z))
      rw [← ht] at t1i
      refine y_if_ne (tgt := 20) E dX7_init_38 (by decide) (by omega) (fun h38 => ?_) (fun h38 => ?_)
      · have hg := tg (by omega)
        rw [if_pos (by omega)] at hre
        refine y_widen (by rw [List.length_append, List.length_singleton]; omega) (by rw [List.length_append, List.length_singleton]; omega) (ih t.1 _ (qs ++ [qo]) (dn ++ [c.2.2]) (by omega) (by omega) (by rw [List.length_append, List.length_singleton]; have := hci.2.2 hg.1; omega) (by rw [List.length_append, List.length_singleton]; omega) ?_ hll4 hcm4 hkk4 ?_)
        · rw [hr4, hg.1]
        · rw [hre, List.append_assoc]
          rfl
      · first | refine y_ald_n E dX7_init_41 (by rfl) ?_ | refine y_aload_n E dX7_init_41 (by rfl) ?_
        refine y_dup E dX7_init_42 rfl ?_
        refine y_get E dX7_init_43 fl_X7_34_X7 (hr1) (by rfl) ?_
        first | refine y_ald_n E dX7_init_46 (by rfl) ?_ | refine y_aload_n E dX7_init_46 (by rfl) ?_
        refine y_get E dX7_init_47 fl_X7_38_X7 (hr1) (by rfl) ?_
        first | refine y_ald_n E dX7_init_50 (by rfl) ?_ | refine y_aload_n E dX7_init_50 (by rfl) ?_
        refine y_callF E dX7_init_51 lk_X7_42_J7 (c_J7_length hx4 (by omega)) (by rfl) (hxc) rfl (by decide) (by omega) (by omega) rfl (Nat.le_of_ble_eq_true rfl) ?_ (fun _ _ _ h => h.elim)
        rintro _ _ ⟨rfl, hG9⟩
        rw [hG9]
        clear hG9
        refine y_icmp_ge (tgt := 63) E dX7_init_56 (by decide) (by omega) (by omega) (fun h56 => ?_) (fun h56 => ?_)
        · refine y_iconst E dX7_init_63 ?_
          refine y_ior E dX7_init_64 (v := iI (max c.2.1 (rdL T t.1))) ((or_i hci.2.1 (by omega)).trans (congrArg iI (by unfold rdL; first | rw [if_pos (by omega)] | rw [if_neg (by omega)]))) ?_
          have hmx : max c.2.1 (rdL T t.1) = 0 ∨ max c.2.1 (rdL T t.1) = 1 := by unfold rdL; split <;> omega
          refine y_put E dX7_init_65 fl_X7_34_X7 fw_X7_3 (nar_z hmx) (fit_z hmx) (hr1) (Nat.le_of_ble_eq_true rfl) ?_
          refine y_return E F rfl dX7_init_68 (by omega) (by omega) (by
              rw [if_neg (by omega)] at hre
              rw [hre, gset_gset]
              have hk5 : gK (· = τ) G3 (gset G3 r (some τ, rdE x l t.1 (max c.2.1 (rdL T t.1)))) := gK_w _ hr3 rfl
              exact ⟨rfl, l, qs ++ [qo], gset_s _ _ _, hll3.kk hk5 (fun q => hτ.1 q.symm), hcm3.kk hk5 (fun q => hτ.2 q.symm), gK_t hkk (gK_m hk5 (fun _ z => Or.inl z))⟩)
        · refine y_iconst E dX7_init_59 ?_
          refine y_goto (tgt := 64) E dX7_init_60 (by decide) ?_
          refine y_ior E dX7_init_64 (v := iI (max c.2.1 (rdL T t.1))) ((or_i hci.2.1 (by omega)).trans (congrArg iI (by unfold rdL; first | rw [if_pos (by omega)] | rw [if_neg (by omega)]))) ?_
          have hmx : max c.2.1 (rdL T t.1) = 0 ∨ max c.2.1 (rdL T t.1) = 1 := by unfold rdL; split <;> omega
          refine y_put E dX7_init_65 fl_X7_34_X7 fw_X7_3 (nar_z hmx) (fit_z hmx) (hr1) (Nat.le_of_ble_eq_true rfl) ?_
          refine y_return E F rfl dX7_init_68 (by omega) (by omega) (by
              rw [if_neg (by omega)] at hre
              rw [hre, gset_gset]
              have hk5 : gK (· = τ) G3 (gset G3 r (some τ, rdE x l t.1 (max c.2.1 (rdL T t.1)))) := gK_w _ hr3 rfl
              exact ⟨rfl, l, qs ++ [qo], gset_s _ _ _, hll3.kk hk5 (fun q => hτ.1 q.symm), hcm3.kk hk5 (fun q => hτ.2 q.symm), gK_t hkk (gK_m hk5 (fun _ z => Or.inl z))⟩)
  have hxr : x ≠ r := by
    obtain ⟨fx, hxc⟩ := hx.c
    exact g_ne hxc hr (fun e => by injection e with e1 e2; injection e1 with e1; exact hσ.1 e1)
  first | refine y_ald_n E dX7_init_0 (by rfl) ?_ | refine y_aload_n E dX7_init_0 (by rfl) ?_
  refine y_objInit E dX7_init_1 q2214 q167 q168 (by decide) (Nat.le_of_ble_eq_true rfl) ?_
  first | refine y_ald_n E dX7_init_4 (by rfl) ?_ | refine y_aload_n E dX7_init_4 (by rfl) ?_
  refine y_new E (0, 91) dX7_init_5 nw_X7_9 (by omega) (by omega) (fun q5 hq5 => ?_)
  refine y_dup E dX7_init_8 rfl ?_
  refine y_callI E dX7_init_9 lk_X7_11 (c_J4_init (a := q5) (τ := (0, 91)) (gset_s _ _ _)) (by rfl) (by decide) (by omega) (by omega) rfl (Nat.le_of_ble_eq_true rfl) ?_ (fun _ _ _ h => h.elim)
  rintro _ G2 ⟨rfl, hll2, vv, hG9⟩
  rw [gset_gset] at hG9
  have hE2 : gExt G G2 := by rw [hG9]; exact gExt_n hq5
  have hr := hE2 _ _ hr
  refine y_putF E dX7_init_12 fl_X7_12_X7 fw_X7_1 (fun q h => by cases h; rfl) (by first | rfl | exact nar_r _ _) (by first | rfl | exact fit_r _ _) (hr) (Nat.le_of_ble_eq_true rfl) ?_
  have hr := gset_s G2 r (some τ, .inr (6, [.null, .ref q5, .int (iI 0), .int (iI 0)]))
  first | refine y_ald_n E dX7_init_15 (by rfl) ?_ | refine y_aload_n E dX7_init_15 (by rfl) ?_
  first | refine y_ald_n E dX7_init_16 (by rfl) ?_ | refine y_aload_n E dX7_init_16 (by rfl) ?_
  refine y_putF E dX7_init_17 fl_X7_18_X7 fw_X7_0 (fun q h => by cases h; rfl) (by first | rfl | exact nar_r _ _) (by first | rfl | exact fit_r _ _) (hr) (Nat.le_of_ble_eq_true rfl) ?_
  refine y_heap (gset_gset _ _ _ _) ?_
  have hrG2 := hE2 _ _ hr0
  have hk2 : gK (· = τ) G2 (gset G2 r (some τ, rdE x q5 0 0)) := gK_w _ hrG2 rfl
  exact y_widen (by simp) (by simp) (loop q5 21 0 _ [] [] (by omega) (by omega) (by simp) (by simp) (gset_s _ _ _) (hll2.kk hk2 (fun q => hτ.1 q.symm)) ⟨rfl, fun i k e => by cases e⟩ (gK_t (gK_e hE2) (gK_m hk2 (fun _ z => Or.inl z))) rfl)
end X7d
