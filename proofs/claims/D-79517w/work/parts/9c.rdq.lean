/-! ===== Reader: patterns, commands, all of it ===== -/
section Rq
variable {G : yH} {T : Nat → Int → Int} {cs : List Int} {p b : Int}
theorem gs0 {G : yH} {a q : Nat} {v : yT × yE} (h : gset G a v q = none) : G q = none := by
  by_cases e : q = a
  · rw [e, gset_s] at h
    cases h
  · rw [gset_n v e] at h
    exact h
theorem gset_sm {G : yH} {a : Nat} {v : yT × yE} (h : G a = some v) : gset G a v = G := by
  funext z
  by_cases e : z = a
  · rw [e, gset_s, h]
  · rw [gset_n v e]
/-- a new cell, made ahead of a change elsewhere, is set behind it -/
theorem gs4 {G : yH} {r q : Nat} (h : r ≠ q) (A Z B C : yT × yE) : gset (gset (gset (gset G r A) q Z) r B) q C = gset (gset G r B) q C := by
  funext z
  by_cases e : z = q
  · rw [e, gset_s, gset_s]
  · rw [gset_n _ e, gset_n _ e]
    by_cases d : z = r
    · rw [d, gset_s, gset_s]
    · rw [gset_n _ d, gset_n _ e, gset_n _ d, gset_n _ d]
theorem hr_lt {hi : Int} (hh : 33 ≤ hi) (h : hi ≤ hrT T p) : p < T 17 0 := by
  unfold hrT at h
  split at h
  · assumption
  · omega
theorem dgS_in (hT : TX T cs) (hi : Int) (hp : 0 ≤ p ∧ p ≤ 60) : 0 ≤ (dgS T hi p b).1 ∧ (dgS T hi p b).1 ≤ 60 := by
  unfold dgS
  split
  · rename_i h
    have h1 := hr_lt (by decide) h.2.1
    have h17 := hT.1
    have h60 := hT.2.1
    exact ⟨by show 0 ≤ p + 1; omega, by show p + 1 ≤ 60; omega⟩
  · exact hp
theorem tkS_in (hT : TX T cs) {c : Int} (hc : 33 ≤ c) (hp : 0 ≤ p ∧ p ≤ 60) : (0 ≤ (tkS T c p b).1 ∧ (tkS T c p b).1 ≤ 60) ∧ ((tkS T c p b).2 = 0 ∨ (tkS T c p b).2 = 1) := by
  unfold tkS
  split
  · rename_i h
    have h1 := hr_lt hc (show c ≤ hrT T p by omega)
    have h17 := hT.1
    have h60 := hT.2.1
    exact ⟨⟨by show 0 ≤ p + 1; omega, by show p + 1 ≤ 60; omega⟩, Or.inr rfl⟩
  · exact ⟨hp, Or.inl rfl⟩
theorem nuS_in (hT : TX T cs) (hp : 0 ≤ p ∧ p ≤ 60) (hb : b = 0 ∨ b = 1) : (0 ≤ (nuS T p b).1 ∧ (nuS T p b).1 ≤ 60) ∧ ((nuS T p b).2.1 = 0 ∨ (nuS T p b).2.1 = 1) := by
  have h1 := dgS_in (b := b) hT 57 hp
  have h2 := dgS_b (T := T) (hi := 57) (p := p) hb
  unfold nuS
  split
  · rename_i h
    have h3 := hr_lt (by decide) h.2.1
    have h17 := hT.1
    have h60 := hT.2.1
    exact ⟨⟨by show 0 ≤ (dgS T 57 p b).1 + 1; omega, by show (dgS T 57 p b).1 + 1 ≤ 60; omega⟩, Or.inl rfl⟩
  · exact ⟨h1, h2.1⟩
def ptR (T : Nat → Int → Int) (p b : Int) : Int × Int × Int := if b = 0 then sgR T 8 p 0 0 else (p, 0, 0)
theorem sgR_in (hT : TX T cs) : ∀ (f : Nat) (p m n : Int), 0 ≤ p ∧ p ≤ 60 → n + f = 8 → 0 ≤ n → (0 ≤ (sgR T f p m n).1 ∧ (sgR T f p m n).1 ≤ 60) ∧ 0 ≤ (sgR T f p m n).2.2 ∧ (sgR T f p m n).2.2 ≤ 8
  | 0, p, m, n, hp, hn, h0 => ⟨hp, h0, by show n ≤ 8; omega⟩
  | f + 1, p, m, n, hp, hn, h0 => by
    unfold sgR
    split
    · rename_i h
      have h1 := hr_lt (T := T) (p := p) (hi := 42) (by decide) (by omega)
      have h17 := hT.1
      have h60 := hT.2.1
      exact sgR_in hT f _ _ _ ⟨by omega, by omega⟩ (by omega) (by omega)
    · exact ⟨hp, h0, by show n ≤ 8; omega⟩
theorem ptR_in (hT : TX T cs) (hp : 0 ≤ p ∧ p ≤ 60) : (0 ≤ (ptR T p b).1 ∧ (ptR T p b).1 ≤ 60) ∧ 0 ≤ (ptR T p b).2.2 ∧ (ptR T p b).2.2 ≤ 8 := by
  unfold ptR
  split
  · exact sgR_in hT 8 p 0 0 hp (by decide) (by decide)
  · exact ⟨hp, by decide, by decide⟩
abbrev noC (c : Int) : Prop := c ≠ 76 ∧ c ≠ 68 ∧ c ≠ 66 ∧ c ≠ 77 ∧ c ≠ 83 ∧ c ≠ 70 ∧ c ≠ 80 ∧ c ≠ 78
def lt2 (n : Int) : Int := if n < 2 then 1 else 0
theorem lt2_b (n : Int) : lt2 n = 0 ∨ lt2 n = 1 := by
  unfold lt2
  split
  · exact Or.inr rfl
  · exact Or.inl rfl
/-- a fog is set: behind its sign -/
def cfS (T : Nat → Int → Int) (p : Int) : Int × Int × Option (Int × Int × Int × Int) :=
  ((dgS T 57 (tkS T 61 (dgS T 54 p 0).1 (dgS T 54 p 0).2.1).1 (max (dgS T 54 p 0).2.1 (1 - (tkS T 61 (dgS T 54 p 0).1 (dgS T 54 p 0).2.1).2))).1, (dgS T 57 (tkS T 61 (dgS T 54 p 0).1 (dgS T 54 p 0).2.1).1 (max (dgS T 54 p 0).2.1 (1 - (tkS T 61 (dgS T 54 p 0).1 (dgS T 54 p 0).2.1).2))).2.1, some (70, (dgS T 54 p 0).2.2, (dgS T 57 (tkS T 61 (dgS T 54 p 0).1 (dgS T 54 p 0).2.1).1 (max (dgS T 54 p 0).2.1 (1 - (tkS T 61 (dgS T 54 p 0).1 (dgS T 54 p 0).2.1).2))).2.2, 0))
/-- a pattern, behind the tower's number: t a number, d the place and the fault -/
def cqS (T : Nat → Int → Int) (t p b : Int) : Int × Int × Option (Int × Int × Int × Int) :=
  ((ptR T (tkS T 58 p b).1 (max b (1 - (tkS T 58 p b).2))).1, max (max b (1 - (tkS T 58 p b).2)) (lt2 (ptR T (tkS T 58 p b).1 (max b (1 - (tkS T 58 p b).2))).2.2), some (80, t, (ptR T (tkS T 58 p b).1 (max b (1 - (tkS T 58 p b).2))).2.1, (ptR T (tkS T 58 p b).1 (max b (1 - (tkS T 58 p b).2))).2.2))
/-- a command is read: the place, the fault, the command -/
def coS (T : Nat → Int → Int) (p : Int) : Int × Int × Option (Int × Int × Int × Int) :=
  if noC (hrT T p) then (p, 1, none)
  else if hrT T p = 78 then ((nuS T (p + 1) 0).1, (nuS T (p + 1) 0).2.1, some (78, (nuS T (p + 1) 0).2.2, 0, 0))
  else if hrT T p = 70 then cfS T (p + 1)
  else if hrT T p = 80 then cqS T (dgS T 55 (p + 1) 0).2.2 (dgS T 55 (p + 1) 0).1 (dgS T 55 (p + 1) 0).2.1
  else ((dgS T 55 (p + 1) 0).1, (dgS T 55 (p + 1) 0).2.1, some (hrT T p, (dgS T 55 (p + 1) 0).2.2, 0, 0))
def coK (G G' : yH) (r x l : Nat) (τ κ : Nat × Nat) (v : Option Value) (c : Int × Int × Option (Int × Int × Int × Int)) : Prop := match c.2.2 with
  | none => v = some .null ∧ G' = gset G r (some τ, rdE x l c.1 c.2.1)
  | some k => ∃ q, G q = none ∧ v = some (.ref q) ∧ G' = gset (gset G r (some τ, rdE x l c.1 c.2.1)) q (some κ, cmE k.1 k.2.1 k.2.2.1 k.2.2.2)
theorem coK_n {G G' : yH} {r x l : Nat} {τ κ : Nat × Nat} {v : Option Value} {a b : Int} (h1 : v = some .null) (h2 : G' = gset G r (some τ, rdE x l a b)) : coK G G' r x l τ κ v (a, b, none) := ⟨h1, h2⟩
theorem coK_s {G G' : yH} {r x l : Nat} {τ κ : Nat × Nat} {v : Option Value} {a b : Int} {k : Int × Int × Int × Int} (q : Nat) (h0 : G q = none) (h1 : v = some (.ref q)) (h2 : G' = gset (gset G r (some τ, rdE x l a b)) q (some κ, cmE k.1 k.2.1 k.2.2.1 k.2.2.2)) : coK G G' r x l τ κ v (a, b, some k) := ⟨q, h0, h1, h2⟩
section
variable {Γ : yG} {Z : yZ} {cc : ByteArray} {ret : Option FieldType} {hh : List (Nat × Nat × Nat × Nat)} {L mc ms : Nat} {nm : String} {k n : Nat} {Q : State → Prop} {pc : Nat} {lv : List (Option Value)} {st : List Value}
/-- the text of the commands' signs -/
theorem y_ldcS (E : YE Γ Z "SkerryLights$Reader" cc ret hh L mc ms nm) (hd : decode cc pc = .ok (.ldc 69, 2)) (K : Y Γ Z k n Q G (pc + 2) lv (.ref (yad Γ 4) :: st)) : Y Γ Z k n Q G pc lv st := fun H locs ls a b c => va_ldcS E.x E.c E.o E.vkC hd (K H locs ls a b c)
end
end Rq
section X7c
variable {Γ : yG} {G : yH} {T : Nat → Int → Int} {cs : List Int} {r x l : Nat} {τ : Nat × Nat} {t : yT} {p b : Int}
set_option maxHeartbeats 4000000
theorem c_X7_pattern {σ : Nat × Nat} (κ : Nat × Nat) {tw : Int} (hσ : σ ≠ τ) (hr : G r = some (some τ, rdE x l p b)) (hx : isStr G (some σ) x cs) (hT : TX T cs) (hp : 0 ≤ p ∧ p ≤ 60) (hb : b = 0 ∨ b = 1) : Ct_X7_pattern Γ 7 1 4 [.ref r, .int (iI tw)] (G) (fun v G' => ∃ q, G q = none ∧ v = some (.ref q) ∧ G' = gset (gset G r (some τ, rdE x l (ptR T p b).1 (max b (lt2 (ptR T p b).2.2)))) q (some κ, cmE 80 tw (ptR T p b).2.1 (ptR T p b).2.2)) (noX) := by
  refine y_start (lv0 := [some (.ref r), some (.int (iI tw)), none, none]) (nm := "pattern") (own := RX7) (by decide +kernel) rfl rfl (by exact Nat.le_of_ble_eq_true rfl) (by rfl) ?_
  intro Z Q E F
  have h17 := hT.1
  have h60 := hT.2.1
  have loop : ∀ f : Nat, ∀ u m n : Int, n + f = 8 → 0 ≤ n → 0 ≤ u → u ≤ 60 → (b = 0 → ptR T p b = sgR T f u m n) → (b ≠ 0 → ptR T p b = (u, m, n)) → Y Γ Z 0 0 Q (gset G r (some τ, rdE x l u b)) 4 [some (.ref r), some (.int (iI tw)), some (.int (iI m)), some (.int (iI n))] [] := by
    intro f
    induction f with
    | zero =>
      intro u m n hn n0 p0 p1 hs1 hs2
      have hr1 := gset_s G r (some τ, rdE x l u b)
      have hx1 : isStr (gset G r (some τ, rdE x l u b)) (some σ) x cs := hx.kk (gK_w (P := (· = τ)) _ hr rfl) hσ
      have he : ptR T p b = (u, m, n) := by
        by_cases e : b = 0
        · exact hs1 e
        · exact hs2 e
      first | refine y_ald_n E dX7_pattern_4 (by rfl) ?_ | refine y_aload_n E dX7_pattern_4 (by rfl) ?_
      refine y_iload_n E dX7_pattern_5 (by rfl) ?_
      refine y_callV E dX7_pattern_6 lk_X7_60 (c_X7_isSignHere hr1 hx1 hT (by omega) hb (by omega)) (by rfl) (hr1) rfl (by decide) (by omega) (by omega) rfl (Nat.le_of_ble_eq_true rfl) ?_ (fun _ _ _ h => h.elim)
      rintro _ _ ⟨rfl, hG9⟩
      rw [hG9]
      clear hG9
      refine y_ifd_eq (tgt := 47) E dX7_pattern_9 (by decide) (fun h9 => ?_) (fun h9 => ?_)
      · first | refine y_ald_n E dX7_pattern_47 (by rfl) ?_ | refine y_aload_n E dX7_pattern_47 (by rfl) ?_
        refine y_dup E dX7_pattern_48 rfl ?_
        refine y_get E dX7_pattern_49 fl_X7_34_X7 (hr1) (by rfl) ?_
        refine y_iload_n E dX7_pattern_52 (by rfl) ?_
        refine y_iconst E dX7_pattern_53 ?_
        refine y_icmp_ge (tgt := 61) E dX7_pattern_54 (by decide) (by omega) (by omega) (fun h54 => ?_) (fun h54 => ?_)
        · refine y_iconst E dX7_pattern_61 ?_
          refine y_ior E dX7_pattern_62 (or_i (by omega) (by omega)) ?_
          refine y_put E dX7_pattern_63 fl_X7_34_X7 fw_X7_3 (nar_z (by omega)) (fit_z (by omega)) (hr1) (Nat.le_of_ble_eq_true rfl) ?_
          refine y_heap (gset_gset _ _ _ _) ?_
          refine y_new E κ dX7_pattern_66 nw_X7_64 (by omega) (by omega) (fun q66 hq66 => ?_)
          refine y_dup E dX7_pattern_69 rfl ?_
          refine y_bipush E dX7_pattern_70 (by decide) ?_
          refine y_iload_n E dX7_pattern_72 (by rfl) ?_
          refine y_iload_n E dX7_pattern_73 (by rfl) ?_
          refine y_iload_n E dX7_pattern_74 (by rfl) ?_
          refine y_callI E dX7_pattern_75 lk_X7_66 (c_X8_init (q := q66) (τ := κ) (gset_s _ _ _) (by omega)) (by rfl) (by decide) (by omega) (by omega) rfl (Nat.le_of_ble_eq_true rfl) ?_ (fun _ _ _ h => h.elim)
          rintro _ _ ⟨rfl, hG9⟩
          rw [hG9]
          clear hG9
          refine y_areturn (r := some _) E F rfl (by first | exact Or.inl ⟨_, rfl⟩ | exact Or.inr ⟨_, rfl⟩) dX7_pattern_78 (by omega) (by omega) (by rw [he, gset_gset]; exact ⟨q66, gs0 hq66, rfl, by congr 4; unfold lt2; first | (rw [if_pos (by omega)]; done) | (rw [if_neg (by omega)]; done)⟩)
        · refine y_iconst E dX7_pattern_57 ?_
          refine y_goto (tgt := 62) E dX7_pattern_58 (by decide) ?_
          refine y_ior E dX7_pattern_62 (or_i (by omega) (by omega)) ?_
          refine y_put E dX7_pattern_63 fl_X7_34_X7 fw_X7_3 (nar_z (by omega)) (fit_z (by omega)) (hr1) (Nat.le_of_ble_eq_true rfl) ?_
          refine y_heap (gset_gset _ _ _ _) ?_
          refine y_new E κ dX7_pattern_66 nw_X7_64 (by omega) (by omega) (fun q66 hq66 => ?_)
          refine y_dup E dX7_pattern_69 rfl ?_
          refine y_bipush E dX7_pattern_70 (by decide) ?_
          refine y_iload_n E dX7_pattern_72 (by rfl) ?_
          refine y_iload_n E dX7_pattern_73 (by rfl) ?_
          refine y_iload_n E dX7_pattern_74 (by rfl) ?_
          refine y_callI E dX7_pattern_75 lk_X7_66 (c_X8_init (q := q66) (τ := κ) (gset_s _ _ _) (by omega)) (by rfl) (by decide) (by omega) (by omega) rfl (Nat.le_of_ble_eq_true rfl) ?_ (fun _ _ _ h => h.elim)
          rintro _ _ ⟨rfl, hG9⟩
          rw [hG9]
          clear hG9
          refine y_areturn (r := some _) E F rfl (by first | exact Or.inl ⟨_, rfl⟩ | exact Or.inr ⟨_, rfl⟩) dX7_pattern_78 (by omega) (by omega) (by rw [he, gset_gset]; exact ⟨q66, gs0 hq66, rfl, by congr 4; unfold lt2; first | (rw [if_pos (by omega)]; done) | (rw [if_neg (by omega)]; done)⟩)
      · (exfalso; omega)
    | succ f ih =>
      intro u m n hn n0 p0 p1 hs1 hs2
      have hin := hrT_in hT p0
      have hlt : 42 ≤ hrT T u → u < T 17 0 := fun h => hr_lt (by decide) h
      have hr1 := gset_s G r (some τ, rdE x l u b)
      have hx1 : isStr (gset G r (some τ, rdE x l u b)) (some σ) x cs := hx.kk (gK_w (P := (· = τ)) _ hr rfl) hσ
      have he : ¬ (b = 0 ∧ n < 8 ∧ (hrT T u = 42 ∨ hrT T u = 46)) → ptR T p b = (u, m, n) := fun h => by
        by_cases e : b = 0
        · rw [hs1 e]
          unfold sgR
          rw [if_neg (fun q => h ⟨e, q⟩)]
        · exact hs2 e
      have hg : (b = 0 ∧ n < 8 ∧ (hrT T u = 42 ∨ hrT T u = 46)) → ptR T p b = sgR T f (u + 1) (2 * m + (if hrT T u = 42 then 1 else 0)) (n + 1) := fun h => by
        rw [hs1 h.1]
        conv => lhs; unfold sgR
        rw [if_pos h.2]
      first | refine y_ald_n E dX7_pattern_4 (by rfl) ?_ | refine y_aload_n E dX7_pattern_4 (by rfl) ?_
      refine y_iload_n E dX7_pattern_5 (by rfl) ?_
      refine y_callV E dX7_pattern_6 lk_X7_60 (c_X7_isSignHere hr1 hx1 hT (by omega) hb (by omega)) (by rfl) (hr1) rfl (by decide) (by omega) (by omega) rfl (Nat.le_of_ble_eq_true rfl) ?_ (fun _ _ _ h => h.elim)
      rintro _ _ ⟨rfl, hG9⟩
      rw [hG9]
      clear hG9
      refine y_ifd_eq (tgt := 47) E dX7_pattern_9 (by decide) (fun h9 => ?_) (fun h9 => ?_)
      · first | refine y_ald_n E dX7_pattern_47 (by rfl) ?_ | refine y_aload_n E dX7_pattern_47 (by rfl) ?_
        refine y_dup E dX7_pattern_48 rfl ?_
        refine y_get E dX7_pattern_49 fl_X7_34_X7 (hr1) (by rfl) ?_
        refine y_iload_n E dX7_pattern_52 (by rfl) ?_
        refine y_iconst E dX7_pattern_53 ?_
        refine y_icmp_ge (tgt := 61) E dX7_pattern_54 (by decide) (by omega) (by omega) (fun h54 => ?_) (fun h54 => ?_)
        · refine y_iconst E dX7_pattern_61 ?_
          refine y_ior E dX7_pattern_62 (or_i (by omega) (by omega)) ?_
          refine y_put E dX7_pattern_63 fl_X7_34_X7 fw_X7_3 (nar_z (by omega)) (fit_z (by omega)) (hr1) (Nat.le_of_ble_eq_true rfl) ?_
          refine y_heap (gset_gset _ _ _ _) ?_
          refine y_new E κ dX7_pattern_66 nw_X7_64 (by omega) (by omega) (fun q66 hq66 => ?_)
          refine y_dup E dX7_pattern_69 rfl ?_
          refine y_bipush E dX7_pattern_70 (by decide) ?_
          refine y_iload_n E dX7_pattern_72 (by rfl) ?_
          refine y_iload_n E dX7_pattern_73 (by rfl) ?_
          refine y_iload_n E dX7_pattern_74 (by rfl) ?_
          refine y_callI E dX7_pattern_75 lk_X7_66 (c_X8_init (q := q66) (τ := κ) (gset_s _ _ _) (by omega)) (by rfl) (by decide) (by omega) (by omega) rfl (Nat.le_of_ble_eq_true rfl) ?_ (fun _ _ _ h => h.elim)
          rintro _ _ ⟨rfl, hG9⟩
          rw [hG9]
          clear hG9
          refine y_areturn (r := some _) E F rfl (by first | exact Or.inl ⟨_, rfl⟩ | exact Or.inr ⟨_, rfl⟩) dX7_pattern_78 (by omega) (by omega) (by rw [he h9, gset_gset]; exact ⟨q66, gs0 hq66, rfl, by congr 4; unfold lt2; first | (rw [if_pos (by omega)]; done) | (rw [if_neg (by omega)]; done)⟩)
        · refine y_iconst E dX7_pattern_57 ?_
          refine y_goto (tgt := 62) E dX7_pattern_58 (by decide) ?_
          refine y_ior E dX7_pattern_62 (or_i (by omega) (by omega)) ?_
          refine y_put E dX7_pattern_63 fl_X7_34_X7 fw_X7_3 (nar_z (by omega)) (fit_z (by omega)) (hr1) (Nat.le_of_ble_eq_true rfl) ?_
          refine y_heap (gset_gset _ _ _ _) ?_
          refine y_new E κ dX7_pattern_66 nw_X7_64 (by omega) (by omega) (fun q66 hq66 => ?_)
          refine y_dup E dX7_pattern_69 rfl ?_
          refine y_bipush E dX7_pattern_70 (by decide) ?_
          refine y_iload_n E dX7_pattern_72 (by rfl) ?_
          refine y_iload_n E dX7_pattern_73 (by rfl) ?_
          refine y_iload_n E dX7_pattern_74 (by rfl) ?_
          refine y_callI E dX7_pattern_75 lk_X7_66 (c_X8_init (q := q66) (τ := κ) (gset_s _ _ _) (by omega)) (by rfl) (by decide) (by omega) (by omega) rfl (Nat.le_of_ble_eq_true rfl) ?_ (fun _ _ _ h => h.elim)
          rintro _ _ ⟨rfl, hG9⟩
          rw [hG9]
          clear hG9
          refine y_areturn (r := some _) E F rfl (by first | exact Or.inl ⟨_, rfl⟩ | exact Or.inr ⟨_, rfl⟩) dX7_pattern_78 (by omega) (by omega) (by rw [he h9, gset_gset]; exact ⟨q66, gs0 hq66, rfl, by congr 4; unfold lt2; first | (rw [if_pos (by omega)]; done) | (rw [if_neg (by omega)]; done)⟩)
      · refine y_iconst E dX7_pattern_12 ?_
        refine y_iload_n E dX7_pattern_13 (by rfl) ?_
        refine y_imul E dX7_pattern_14 ?_
        first | refine y_ald_n E dX7_pattern_15 (by rfl) ?_ | refine y_aload_n E dX7_pattern_15 (by rfl) ?_
        refine y_callV E dX7_pattern_16 lk_X7_52 (c_X7_here hr1 hx1 hT (by omega)) (by rfl) (hr1) rfl (by decide) (by omega) (by omega) rfl (Nat.le_of_ble_eq_true rfl) ?_ (fun _ _ _ h => h.elim)
        rintro _ _ ⟨rfl, hG9⟩
        rw [hG9]
        clear hG9
        refine y_bipush E dX7_pattern_19 (by decide) ?_
        refine y_icmp_ne (tgt := 28) E dX7_pattern_21 (by decide) (by omega) (by omega) (fun h21 => ?_) (fun h21 => ?_)
        · refine y_iconst E dX7_pattern_28 ?_
          refine y_iadd E dX7_pattern_29 ?_
          refine y_istore_n (j := 2) E dX7_pattern_30 rfl (Nat.le_of_ble_eq_true rfl) ?_
          refine y_iinc E dX7_pattern_31 (by rfl) ?_
          first | refine y_ald_n E dX7_pattern_34 (by rfl) ?_ | refine y_aload_n E dX7_pattern_34 (by rfl) ?_
          refine y_dup E dX7_pattern_35 rfl ?_
          refine y_get E dX7_pattern_36 fl_X7_38_X7 (hr1) (by rfl) ?_
          refine y_iconst E dX7_pattern_39 ?_
          refine y_iadd E dX7_pattern_40 ?_
          refine y_put E dX7_pattern_41 fl_X7_38_X7 fw_X7_2 rfl (by rfl) (hr1) (Nat.le_of_ble_eq_true rfl) ?_
          refine y_heap (gset_gset _ _ _ _) ?_
          refine y_goto (tgt := 4) E dX7_pattern_44 (by decide) ?_
          exact ih (u + 1) _ (n + 1) (by omega) (by omega) (by omega) (by have := hlt (by omega); omega) (fun _ => by rw [hg h9]; first | rw [if_pos (by omega)] | rw [if_neg (by omega)]) (fun e => absurd h9.1 e)
        · refine y_iconst E dX7_pattern_24 ?_
          refine y_goto (tgt := 29) E dX7_pattern_25 (by decide) ?_
          refine y_iadd E dX7_pattern_29 ?_
          refine y_istore_n (j := 2) E dX7_pattern_30 rfl (Nat.le_of_ble_eq_true rfl) ?_
          refine y_iinc E dX7_pattern_31 (by rfl) ?_
          first | refine y_ald_n E dX7_pattern_34 (by rfl) ?_ | refine y_aload_n E dX7_pattern_34 (by rfl) ?_
          refine y_dup E dX7_pattern_35 rfl ?_
          refine y_get E dX7_pattern_36 fl_X7_38_X7 (hr1) (by rfl) ?_
          refine y_iconst E dX7_pattern_39 ?_
          refine y_iadd E dX7_pattern_40 ?_
          refine y_put E dX7_pattern_41 fl_X7_38_X7 fw_X7_2 rfl (by rfl) (hr1) (Nat.le_of_ble_eq_true rfl) ?_
          refine y_heap (gset_gset _ _ _ _) ?_
          refine y_goto (tgt := 4) E dX7_pattern_44 (by decide) ?_
          exact ih (u + 1) _ (n + 1) (by omega) (by omega) (by omega) (by have := hlt (by omega); omega) (fun _ => by rw [hg h9]; first | rw [if_pos (by omega)] | rw [if_neg (by omega)]) (fun e => absurd h9.1 e)
  refine y_iconst E dX7_pattern_0 ?_
  refine y_istore_n (j := 2) E dX7_pattern_1 rfl (Nat.le_of_ble_eq_true rfl) ?_
  refine y_iconst E dX7_pattern_2 ?_
  refine y_istore_n (j := 3) E dX7_pattern_3 rfl (Nat.le_of_ble_eq_true rfl) ?_
  refine y_heap (gset_sm hr).symm ?_
  exact loop 8 p 0 0 (by decide) (by decide) hp.1 hp.2 (fun e => by unfold ptR; rw [if_pos e]) (fun e => by unfold ptR; rw [if_neg e])
theorem c_X7_command {σ : Nat × Nat} (κ : Nat × Nat) (hσ : σ ≠ τ) (hB : gB Γ G) (hr : G r = some (some τ, rdE x l p 0)) (hx : isStr G (some σ) x cs) (hT : TX T cs) (hp : 0 ≤ p ∧ p ≤ 60) : Ct_X7_command Γ 8 1 4 [.ref r] (G) (fun v G' => coK G G' r x l τ κ v (coS T p)) (noX) := by
  refine y_start (lv0 := [some (.ref r), none, none]) (nm := "command") (own := RX7) (by decide +kernel) rfl rfl (by exact Nat.le_of_ble_eq_true rfl) (by rfl) ?_
  intro Z Q E F
  have h17 := hT.1
  have h60 := hT.2.1
  have hin := hrT_in hT hp.1
  have hlt : 33 ≤ hrT T p → p < T 17 0 := fun h => hr_lt (by decide) h
  have hxk : ∀ u v, isStr (gset G r (some τ, rdE x l u v)) (some σ) x cs := fun u v => hx.kk (gK_w (P := (· = τ)) _ hr rfl) hσ
  obtain ⟨vs, s1, s2, hcm, hcv⟩ := hB.2.2.2.2.1
  have hcr : ∀ i : Int, 0 ≤ (if i = 0 then (76 : Int) else if i = 1 then 68 else if i = 2 then 66 else if i = 3 then 77 else if i = 4 then 83 else if i = 5 then 70 else if i = 6 then 80 else 78) ∧ (if i = 0 then (76 : Int) else if i = 1 then 68 else if i = 2 then 66 else if i = 3 then 77 else if i = 4 then 83 else if i = 5 then 70 else if i = 6 then 80 else 78) ≤ 127 := fun i => by omega
  have hcs : isStr G none (yad Γ 4) [76, 68, 66, 77, 83, 70, 80, 78] := ⟨vs, _, s1, s2, hcm, hcv, fun i _ _ => hcr i, fun i hi => by
    simp only [List.length_cons, List.length_nil] at hi
    rcases (show i = 0 ∨ i = 1 ∨ i = 2 ∨ i = 3 ∨ i = 4 ∨ i = 5 ∨ i = 6 ∨ i = 7 by omega) with rfl | rfl | rfl | rfl | rfl | rfl | rfl | rfl <;> rfl⟩
  have hno : ∀ i : Int, idxOk (fun j => if j = 0 then 76 else if j = 1 then 68 else if j = 2 then 66 else if j = 3 then 77 else if j = 4 then 83 else if j = 5 then 70 else if j = 6 then 80 else 78) 8 (hrT T p) i → (i < 0 ↔ noC (hrT T p)) ∧ -1 ≤ i ∧ i < 8 := fun i h => by
    refine ⟨?_, h.1, h.2.1⟩
    rw [h.2.2]
    constructor
    · intro q
      have q0 := q 0 (by decide)
      have q1 := q 1 (by decide)
      have q2 := q 2 (by decide)
      have q3 := q 3 (by decide)
      have q4 := q 4 (by decide)
      have q5 := q 5 (by decide)
      have q6 := q 6 (by decide)
      have q7 := q 7 (by decide)
      simp at q0 q1 q2 q3 q4 q5 q6 q7
      exact ⟨Ne.symm q0, Ne.symm q1, Ne.symm q2, Ne.symm q3, Ne.symm q4, Ne.symm q5, Ne.symm q6, Ne.symm q7⟩
    · intro q j hj e
      rcases (show j = 0 ∨ j = 1 ∨ j = 2 ∨ j = 3 ∨ j = 4 ∨ j = 5 ∨ j = 6 ∨ j = 7 by omega) with rfl | rfl | rfl | rfl | rfl | rfl | rfl | rfl <;> simp at e <;> omega
  have K28 : ¬ noC (hrT T p) → Y Γ Z 0 0 Q G 28 [some (.ref r), some (.int (iI (hrT T p))), none] [] := by
    intro hc
    have hp1 : p < T 17 0 := hlt (by omega)
    have hN : hrT T p = 78 → coS T p = ((nuS T (p + 1) 0).1, (nuS T (p + 1) 0).2.1, some (78, (nuS T (p + 1) 0).2.2, 0, 0)) := fun e => by unfold coS; rw [if_neg hc, if_pos e]
    have hF : hrT T p = 70 → coS T p = cfS T (p + 1) := fun e => by unfold coS; rw [if_neg hc, if_neg (by omega), if_pos e]
    have hP : hrT T p = 80 → coS T p = cqS T (dgS T 55 (p + 1) 0).2.2 (dgS T 55 (p + 1) 0).1 (dgS T 55 (p + 1) 0).2.1 := fun e => by unfold coS; rw [if_neg hc, if_neg (by omega), if_neg (by omega), if_pos e]
    have hA : hrT T p ≠ 78 → hrT T p ≠ 70 → hrT T p ≠ 80 → coS T p = ((dgS T 55 (p + 1) 0).1, (dgS T 55 (p + 1) 0).2.1, some (hrT T p, (dgS T 55 (p + 1) 0).2.2, 0, 0)) := fun e1 e2 e3 => by unfold coS; rw [if_neg hc, if_neg e1, if_neg e2, if_neg e3]
    have hr2 := gset_s G r (some τ, rdE x l (p + 1) 0)
    have hx2 := hxk (p + 1) 0
    have hnn := nuS_in (b := 0) hT (p := p + 1) (by omega) (Or.inl rfl)
    -- fog
    have K65 : hrT T p = 70 → Y Γ Z 0 0 Q (gset G r (some τ, rdE x l (p + 1) 0)) 65 [some (.ref r), some (.int (iI (hrT T p))), none] [] := by
      intro e70
      have hco := hF e70
      unfold cfS at hco
      have d1i := dgS_in (b := 0) hT 54 (p := p + 1) (by omega)
      have d1b := dgS_b (T := T) (hi := 54) (p := p + 1) (b := 0) (Or.inl rfl)
      obtain ⟨d, hd⟩ : ∃ d, d = dgS T 54 (p + 1) 0 := ⟨_, rfl⟩
      rw [← hd] at hco d1i d1b
      obtain ⟨d1, d2, d3⟩ := d
      simp only at hco d1i d1b
      have t1i := tkS_in (b := d2) hT (c := 61) (by decide) (p := d1) d1i
      obtain ⟨t, ht⟩ : ∃ t, t = tkS T 61 d1 d2 := ⟨_, rfl⟩
      rw [← ht] at hco t1i
      obtain ⟨t1, t2⟩ := t
      simp only at hco t1i
      obtain ⟨b2, hb2⟩ : ∃ b2, b2 = max d2 (1 - t2) := ⟨_, rfl⟩
      rw [← hb2] at hco
      have hb2r : b2 = 0 ∨ b2 = 1 := by omega
      have hr3 := gset_s G r (some τ, rdE x l d1 d2)
      have hx3 := hxk d1 d2
      have hr4 := gset_s G r (some τ, rdE x l t1 b2)
      have hx4 := hxk t1 b2
      first | refine y_ald_n E dX7_command_65 (by rfl) ?_ | refine y_aload_n E dX7_command_65 (by rfl) ?_
      refine y_bipush E dX7_command_66 (by decide) ?_
      refine y_callV E dX7_command_68 lk_X7_56 (c_X7_digit (hi := 54) hσ hr2 hx2 hT (by omega) (Or.inl rfl) (by omega)) (by rfl) (hr2) rfl (by decide) (by omega) (by omega) rfl (Nat.le_of_ble_eq_true rfl) ?_ (fun _ _ _ h => h.elim)
      rintro _ _ ⟨rfl, hG9⟩
      rw [hG9]
      clear hG9
      rw [← hd]
      simp only
      refine y_heap (gset_gset _ _ _ _) ?_
      have hr2 := hr3
      refine y_istore_n (j := 2) E dX7_command_71 rfl (Nat.le_of_ble_eq_true rfl) ?_
      first | refine y_ald_n E dX7_command_72 (by rfl) ?_ | refine y_aload_n E dX7_command_72 (by rfl) ?_
      refine y_dup E dX7_command_73 rfl ?_
      refine y_get E dX7_command_74 fl_X7_34_X7 (hr2) (by rfl) ?_
      first | refine y_ald_n E dX7_command_77 (by rfl) ?_ | refine y_aload_n E dX7_command_77 (by rfl) ?_
      refine y_bipush E dX7_command_78 (by decide) ?_
      refine y_callV E dX7_command_80 lk_X7_30 (c_X7_takes (c := 61) hr3 hx3 hT d1i d1b.1 (by omega)) (by rfl) (hr2) rfl (by decide) (by omega) (by omega) rfl (Nat.le_of_ble_eq_true rfl) ?_ (fun _ _ _ h => h.elim)
      rintro _ _ ⟨rfl, hG9⟩
      rw [hG9]
      clear hG9
      rw [← ht]
      simp only
      refine y_heap (gset_gset _ _ _ _) ?_
      have hr2 := gset_s G r (some τ, rdE x l t1 d2)
      refine y_if_ne (tgt := 90) E dX7_command_83 (by decide) (by omega) (fun h83 => ?_) (fun h83 => ?_)
      · refine y_iconst E dX7_command_90 ?_
        refine y_ior E dX7_command_91 (v := iI b2) ((or_i (by omega) (by omega)).trans (congrArg iI (by omega))) ?_
        refine y_put E dX7_command_92 fl_X7_34_X7 fw_X7_3 (nar_z (by omega)) (fit_z (by omega)) (hr2) (Nat.le_of_ble_eq_true rfl) ?_
        refine y_heap (gset_gset _ _ _ _) ?_
        refine y_new E κ dX7_command_95 nw_X7_64 (by omega) (by omega) (fun q95 hq95 => ?_)
        have hrq : r ≠ q95 := g_nn hr4 hq95
        have hr5 := gs_n (v := (some κ, cmE 0 0 0 0)) hrq hr4
        have hx5 : isStr (gset (gset G r (some τ, rdE x l t1 b2)) q95 (some κ, cmE 0 0 0 0)) (some σ) x cs := hx4.kk (P := fun _ => False) (gK_n _ hq95) (fun h => h)
        have hr2 := hr5
        refine y_dup E dX7_command_98 rfl ?_
        refine y_iload_n E dX7_command_99 (by rfl) ?_
        refine y_iload_n E dX7_command_100 (by rfl) ?_
        first | refine y_ald_n E dX7_command_101 (by rfl) ?_ | refine y_aload_n E dX7_command_101 (by rfl) ?_
        refine y_bipush E dX7_command_102 (by decide) ?_
        refine y_callV E dX7_command_104 lk_X7_56 (c_X7_digit (hi := 57) hσ hr5 hx5 hT t1i.1 hb2r (by omega)) (by rfl) (hr2) rfl (by decide) (by omega) (by omega) rfl (Nat.le_of_ble_eq_true rfl) ?_ (fun _ _ _ h => h.elim)
        rintro _ _ ⟨rfl, hG9⟩
        rw [hG9]
        clear hG9
        refine y_iconst E dX7_command_107 ?_
        refine y_callI E dX7_command_108 lk_X7_66 (c_X8_init (q := q95) (τ := κ) (gs_n (Ne.symm hrq) (gset_s _ _ _)) (by omega)) (by rfl) (by decide) (by omega) (by omega) rfl (Nat.le_of_ble_eq_true rfl) ?_ (fun _ _ _ h => h.elim)
        rintro _ _ ⟨rfl, hG9⟩
        rw [hG9]
        clear hG9
        refine y_areturn (r := some _) E F rfl (by first | exact Or.inl ⟨_, rfl⟩ | exact Or.inr ⟨_, rfl⟩) dX7_command_111 (by omega) (by omega) (by rw [hco]; exact coK_s q95 (gs0 hq95) rfl (by rw [e70]; exact gs4 hrq _ _ _ _))
      · refine y_iconst E dX7_command_86 ?_
        refine y_goto (tgt := 91) E dX7_command_87 (by decide) ?_
        refine y_ior E dX7_command_91 (v := iI b2) ((or_i (by omega) (by omega)).trans (congrArg iI (by omega))) ?_
        refine y_put E dX7_command_92 fl_X7_34_X7 fw_X7_3 (nar_z (by omega)) (fit_z (by omega)) (hr2) (Nat.le_of_ble_eq_true rfl) ?_
        refine y_heap (gset_gset _ _ _ _) ?_
        refine y_new E κ dX7_command_95 nw_X7_64 (by omega) (by omega) (fun q95 hq95 => ?_)
        have hrq : r ≠ q95 := g_nn hr4 hq95
        have hr5 := gs_n (v := (some κ, cmE 0 0 0 0)) hrq hr4
        have hx5 : isStr (gset (gset G r (some τ, rdE x l t1 b2)) q95 (some κ, cmE 0 0 0 0)) (some σ) x cs := hx4.kk (P := fun _ => False) (gK_n _ hq95) (fun h => h)
        have hr2 := hr5
        refine y_dup E dX7_command_98 rfl ?_
        refine y_iload_n E dX7_command_99 (by rfl) ?_
        refine y_iload_n E dX7_command_100 (by rfl) ?_
        first | refine y_ald_n E dX7_command_101 (by rfl) ?_ | refine y_aload_n E dX7_command_101 (by rfl) ?_
        refine y_bipush E dX7_command_102 (by decide) ?_
        refine y_callV E dX7_command_104 lk_X7_56 (c_X7_digit (hi := 57) hσ hr5 hx5 hT t1i.1 hb2r (by omega)) (by rfl) (hr2) rfl (by decide) (by omega) (by omega) rfl (Nat.le_of_ble_eq_true rfl) ?_ (fun _ _ _ h => h.elim)
        rintro _ _ ⟨rfl, hG9⟩
        rw [hG9]
        clear hG9
        refine y_iconst E dX7_command_107 ?_
        refine y_callI E dX7_command_108 lk_X7_66 (c_X8_init (q := q95) (τ := κ) (gs_n (Ne.symm hrq) (gset_s _ _ _)) (by omega)) (by rfl) (by decide) (by omega) (by omega) rfl (Nat.le_of_ble_eq_true rfl) ?_ (fun _ _ _ h => h.elim)
        rintro _ _ ⟨rfl, hG9⟩
        rw [hG9]
        clear hG9
        refine y_areturn (r := some _) E F rfl (by first | exact Or.inl ⟨_, rfl⟩ | exact Or.inr ⟨_, rfl⟩) dX7_command_111 (by omega) (by omega) (by rw [hco]; exact coK_s q95 (gs0 hq95) rfl (by rw [e70]; exact gs4 hrq _ _ _ _))
    have K112 : hrT T p ≠ 78 → hrT T p ≠ 70 → Y Γ Z 0 0 Q (gset G r (some τ, rdE x l (p + 1) 0)) 112 [some (.ref r), some (.int (iI (hrT T p))), none] [] := by
      intro e78 e70
      have hco := hA e78 e70
      have hco2 := hP
      unfold cqS at hco2
      have d1i := dgS_in (b := 0) hT 55 (p := p + 1) (by omega)
      have d1b := dgS_b (T := T) (hi := 55) (p := p + 1) (b := 0) (Or.inl rfl)
      obtain ⟨d, hd⟩ : ∃ d, d = dgS T 55 (p + 1) 0 := ⟨_, rfl⟩
      rw [← hd] at hco hco2 d1i d1b
      obtain ⟨d1, d2, d3⟩ := d
      simp only at hco hco2 d1i d1b
      have t1i := tkS_in (b := d2) hT (c := 58) (by decide) (p := d1) d1i
      obtain ⟨t, ht⟩ : ∃ t, t = tkS T 58 d1 d2 := ⟨_, rfl⟩
      rw [← ht] at hco2 t1i
      obtain ⟨t1, t2⟩ := t
      simp only at hco2 t1i
      obtain ⟨b2, hb2⟩ : ∃ b2, b2 = max d2 (1 - t2) := ⟨_, rfl⟩
      rw [← hb2] at hco2
      have hb2r : b2 = 0 ∨ b2 = 1 := by omega
      have hr3 := gset_s G r (some τ, rdE x l d1 d2)
      have hx3 := hxk d1 d2
      have hr4 := gset_s G r (some τ, rdE x l t1 b2)
      have hx4 := hxk t1 b2
      first | refine y_ald_n E dX7_command_112 (by rfl) ?_ | refine y_aload_n E dX7_command_112 (by rfl) ?_
      refine y_bipush E dX7_command_113 (by decide) ?_
      refine y_callV E dX7_command_115 lk_X7_56 (c_X7_digit (hi := 55) hσ hr2 hx2 hT (by omega) (Or.inl rfl) (by omega)) (by rfl) (hr2) rfl (by decide) (by omega) (by omega) rfl (Nat.le_of_ble_eq_true rfl) ?_ (fun _ _ _ h => h.elim)
      rintro _ _ ⟨rfl, hG9⟩
      rw [hG9]
      clear hG9
      rw [← hd]
      simp only
      refine y_heap (gset_gset _ _ _ _) ?_
      have hr2 := hr3
      refine y_istore_n (j := 2) E dX7_command_118 rfl (Nat.le_of_ble_eq_true rfl) ?_
      refine y_iload_n E dX7_command_119 (by rfl) ?_
      refine y_bipush E dX7_command_120 (by decide) ?_
      refine y_icmp_eq (tgt := 137) E dX7_command_122 (by decide) (by omega) (by omega) (fun h122 => ?_) (fun h122 => ?_)
      · first | refine y_ald_n E dX7_command_137 (by rfl) ?_ | refine y_aload_n E dX7_command_137 (by rfl) ?_
        refine y_dup E dX7_command_138 rfl ?_
        refine y_get E dX7_command_139 fl_X7_34_X7 (hr2) (by rfl) ?_
        first | refine y_ald_n E dX7_command_142 (by rfl) ?_ | refine y_aload_n E dX7_command_142 (by rfl) ?_
        refine y_bipush E dX7_command_143 (by decide) ?_
        refine y_callV E dX7_command_145 lk_X7_30 (c_X7_takes (c := 58) hr3 hx3 hT d1i d1b.1 (by omega)) (by rfl) (hr2) rfl (by decide) (by omega) (by omega) rfl (Nat.le_of_ble_eq_true rfl) ?_ (fun _ _ _ h => h.elim)
        rintro _ _ ⟨rfl, hG9⟩
        rw [hG9]
        clear hG9
        rw [← ht]
        simp only
        refine y_heap (gset_gset _ _ _ _) ?_
        have hr2 := gset_s G r (some τ, rdE x l t1 d2)
        refine y_if_ne (tgt := 155) E dX7_command_148 (by decide) (by omega) (fun h148 => ?_) (fun h148 => ?_)
        · refine y_iconst E dX7_command_155 ?_
          refine y_ior E dX7_command_156 (v := iI b2) ((or_i (by omega) (by omega)).trans (congrArg iI (by omega))) ?_
          refine y_put E dX7_command_157 fl_X7_34_X7 fw_X7_3 (nar_z (by omega)) (fit_z (by omega)) (hr2) (Nat.le_of_ble_eq_true rfl) ?_
          refine y_heap (gset_gset _ _ _ _) ?_
          have hr2 := hr4
          first | refine y_ald_n E dX7_command_160 (by rfl) ?_ | refine y_aload_n E dX7_command_160 (by rfl) ?_
          refine y_iload_n E dX7_command_161 (by rfl) ?_
          refine y_callV E dX7_command_162 lk_X7_80 (c_X7_pattern κ hσ hr4 hx4 hT t1i.1 hb2r) (by rfl) (hr2) rfl (by decide) (by omega) (by omega) rfl (Nat.le_of_ble_eq_true rfl) ?_ (fun _ _ _ h => h.elim)
          rintro _ G5 ⟨q162, hq162, rfl, hG5⟩
          rw [gset_gset] at hG5
          refine y_areturn (r := some _) E F rfl (by first | exact Or.inl ⟨_, rfl⟩ | exact Or.inr ⟨_, rfl⟩) dX7_command_165 (by omega) (by omega) (by rw [hco2 (by omega)]; exact coK_s q162 (gs0 hq162) rfl hG5)
        · refine y_iconst E dX7_command_151 ?_
          refine y_goto (tgt := 156) E dX7_command_152 (by decide) ?_
          refine y_ior E dX7_command_156 (v := iI b2) ((or_i (by omega) (by omega)).trans (congrArg iI (by omega))) ?_
          refine y_put E dX7_command_157 fl_X7_34_X7 fw_X7_3 (nar_z (by omega)) (fit_z (by omega)) (hr2) (Nat.le_of_ble_eq_true rfl) ?_
          refine y_heap (gset_gset _ _ _ _) ?_
          have hr2 := hr4
          first | refine y_ald_n E dX7_command_160 (by rfl) ?_ | refine y_aload_n E dX7_command_160 (by rfl) ?_
          refine y_iload_n E dX7_command_161 (by rfl) ?_
          refine y_callV E dX7_command_162 lk_X7_80 (c_X7_pattern κ hσ hr4 hx4 hT t1i.1 hb2r) (by rfl) (hr2) rfl (by decide) (by omega) (by omega) rfl (Nat.le_of_ble_eq_true rfl) ?_ (fun _ _ _ h => h.elim)
          rintro _ G5 ⟨q162, hq162, rfl, hG5⟩
          rw [gset_gset] at hG5
          refine y_areturn (r := some _) E F rfl (by first | exact Or.inl ⟨_, rfl⟩ | exact Or.inr ⟨_, rfl⟩) dX7_command_165 (by omega) (by omega) (by rw [hco2 (by omega)]; exact coK_s q162 (gs0 hq162) rfl hG5)
      · refine y_new E κ dX7_command_125 nw_X7_64 (by omega) (by omega) (fun q125 hq125 => ?_)
        refine y_dup E dX7_command_128 rfl ?_
        refine y_iload_n E dX7_command_129 (by rfl) ?_
        refine y_iload_n E dX7_command_130 (by rfl) ?_
        refine y_iconst E dX7_command_131 ?_
        refine y_iconst E dX7_command_132 ?_
        refine y_callI E dX7_command_133 lk_X7_66 (c_X8_init (q := q125) (τ := κ) (gset_s _ _ _) (by omega)) (by rfl) (by decide) (by omega) (by omega) rfl (Nat.le_of_ble_eq_true rfl) ?_ (fun _ _ _ h => h.elim)
        rintro _ _ ⟨rfl, hG9⟩
        rw [hG9]
        clear hG9
        refine y_areturn (r := some _) E F rfl (by first | exact Or.inl ⟨_, rfl⟩ | exact Or.inr ⟨_, rfl⟩) dX7_command_136 (by omega) (by omega) (by rw [hco (by omega)]; exact coK_s q125 (gs0 hq125) rfl (by rw [gset_gset]))
    first | refine y_ald_n E dX7_command_28 (by rfl) ?_ | refine y_aload_n E dX7_command_28 (by rfl) ?_
    refine y_dup E dX7_command_29 rfl ?_
    refine y_get E dX7_command_30 fl_X7_38_X7 (hr) (by rfl) ?_
    refine y_iconst E dX7_command_33 ?_
    refine y_iadd E dX7_command_34 ?_
    refine y_put E dX7_command_35 fl_X7_38_X7 fw_X7_2 rfl (by rfl) (hr) (Nat.le_of_ble_eq_true rfl) ?_
    have hr := hr2
    refine y_iload_n E dX7_command_38 (by rfl) ?_
    refine y_bipush E dX7_command_39 (by decide) ?_
    refine y_icmp_ne (tgt := 59) E dX7_command_41 (by decide) (by omega) (by omega) (fun h41 => ?_) (fun h41 => ?_)
    · refine y_iload_n E dX7_command_59 (by rfl) ?_
      refine y_bipush E dX7_command_60 (by decide) ?_
      refine y_icmp_ne (tgt := 112) E dX7_command_62 (by decide) (by omega) (by omega) (fun h62 => ?_) (fun h62 => ?_)
      · exact K112 (by omega) (by omega)
      · exact K65 (by omega)
    · refine y_new E κ dX7_command_44 nw_X7_64 (by omega) (by omega) (fun q44 hq44 => ?_)
      have hrq : r ≠ q44 := g_nn hr2 hq44
      have hr3 := gs_n (v := (some κ, cmE 0 0 0 0)) hrq hr2
      have hx3 : isStr (gset (gset G r (some τ, rdE x l (p + 1) 0)) q44 (some κ, cmE 0 0 0 0)) (some σ) x cs := hx2.kk (P := fun _ => False) (gK_n _ hq44) (fun h => h)
      have hr := hr3
      refine y_dup E dX7_command_47 rfl ?_
      refine y_iload_n E dX7_command_48 (by rfl) ?_
      first | refine y_ald_n E dX7_command_49 (by rfl) ?_ | refine y_aload_n E dX7_command_49 (by rfl) ?_
      refine y_callV E dX7_command_50 lk_X7_77 (c_X7_number hσ hr3 hx3 hT (by omega) (Or.inl rfl)) (by rfl) (hr) rfl (by decide) (by omega) (by omega) rfl (Nat.le_of_ble_eq_true rfl) ?_ (fun _ _ _ h => h.elim)
      rintro _ _ ⟨rfl, hG9⟩
      rw [hG9]
      clear hG9
      refine y_iconst E dX7_command_53 ?_
      refine y_iconst E dX7_command_54 ?_
      refine y_callI E dX7_command_55 lk_X7_66 (c_X8_init (q := q44) (τ := κ) (gs_n (Ne.symm hrq) (gset_s _ _ _)) (by omega)) (by rfl) (by decide) (by omega) (by omega) rfl (Nat.le_of_ble_eq_true rfl) ?_ (fun _ _ _ h => h.elim)
      rintro _ _ ⟨rfl, hG9⟩
      rw [hG9]
      clear hG9
      refine y_areturn (r := some _) E F rfl (by first | exact Or.inl ⟨_, rfl⟩ | exact Or.inr ⟨_, rfl⟩) dX7_command_58 (by omega) (by omega) (by rw [hN (by omega)]; exact coK_s q44 (gs0 hq44) rfl (by rw [h41]; exact gs4 hrq _ _ _ _))
  first | refine y_ald_n E dX7_command_0 (by rfl) ?_ | refine y_aload_n E dX7_command_0 (by rfl) ?_
  refine y_callV E dX7_command_1 lk_X7_52 (c_X7_here hr hx hT (by omega)) (by rfl) (hr) rfl (by decide) (by omega) (by omega) rfl (Nat.le_of_ble_eq_true rfl) ?_ (fun _ _ _ h => h.elim)
  rintro _ _ ⟨rfl, hG9⟩
  rw [hG9]
  clear hG9
  refine y_istore_n (j := 1) E dX7_command_4 rfl (Nat.le_of_ble_eq_true rfl) ?_
  refine y_ldcS E dX7_command_5 ?_
  refine y_iload_n E dX7_command_7 (by rfl) ?_
  refine y_callV E dX7_command_8 lk_X7_71 (c_J7_indexOf (c := hrT T p) hcm hcv (by decide) (by decide) (by omega) (fun i _ _ => hcr i) _ hcs rfl) (by rfl) (hcm) rfl (by decide) (by omega) (by omega) rfl (Nat.le_of_ble_eq_true rfl) ?_ (fun _ _ _ h => h.elim)
  rintro _ _ ⟨⟨ix, rfl, hix⟩, hG9⟩
  rw [hG9]
  clear hG9
  have hix := hno ix hix
  refine y_if_ge (tgt := 19) E dX7_command_11 (by decide) (by omega) (fun h11 => ?_) (fun h11 => ?_)
  · first | refine y_ald_n E dX7_command_19 (by rfl) ?_ | refine y_aload_n E dX7_command_19 (by rfl) ?_
    refine y_get E dX7_command_20 fl_X7_34_X7 (hr) (by rfl) ?_
    refine y_if_eq (tgt := 28) E dX7_command_23 (by decide) (by omega) (fun h23 => ?_) (fun h23 => ?_)
    · first
        | (exfalso; omega)
        | exact K28 (fun q => by have := hix.1.mpr q; omega)
    · refine y_null E dX7_command_26 ?_
      refine y_areturn (r := none) E F rfl (by first | exact Or.inl ⟨_, rfl⟩ | exact Or.inr ⟨_, rfl⟩) dX7_command_27 (by omega) (by omega) (by first
          | (exfalso; omega)
          | (unfold coS; rw [if_pos (hix.1.mp (by omega))]; exact coK_n rfl rfl))
  · first | refine y_ald_n E dX7_command_14 (by rfl) ?_ | refine y_aload_n E dX7_command_14 (by rfl) ?_
    refine y_iconst E dX7_command_15 ?_
    refine y_put E dX7_command_16 fl_X7_34_X7 fw_X7_3 (nar_z (by omega)) (fit_z (by omega)) (hr) (Nat.le_of_ble_eq_true rfl) ?_
    have hr := gset_s G r (some τ, rdE x l p 1)
    first | refine y_ald_n E dX7_command_19 (by rfl) ?_ | refine y_aload_n E dX7_command_19 (by rfl) ?_
    refine y_get E dX7_command_20 fl_X7_34_X7 (hr) (by rfl) ?_
    refine y_if_eq (tgt := 28) E dX7_command_23 (by decide) (by omega) (fun h23 => ?_) (fun h23 => ?_)
    · first
        | (exfalso; omega)
        | exact K28 (fun q => by have := hix.1.mpr q; omega)
    · refine y_null E dX7_command_26 ?_
      refine y_areturn (r := none) E F rfl (by first | exact Or.inl ⟨_, rfl⟩ | exact Or.inr ⟨_, rfl⟩) dX7_command_27 (by omega) (by omega) (by first
          | (exfalso; omega)
          | (unfold coS; rw [if_pos (hix.1.mp (by omega))]; exact coK_n rfl rfl))
end X7c
