/-! ===== Reader: a text is read ===== -/
section Re
/-- the sign at a place, a blank behind the end -/
def hrT (T : Nat → Int → Int) (p : Int) : Int := if p < T 17 0 then T 15 p else 32
/-- the text cs of the twin's input -/
def TX (T : Nat → Int → Int) (cs : List Int) : Prop := T 17 0 = cs.length ∧ cs.length ≤ 60 ∧ ∀ i : Nat, i < cs.length → cs[i]? = some (T 15 i) ∧ 33 ≤ T 15 i ∧ T 15 i ≤ 126
theorem hrT_in {T : Nat → Int → Int} {cs : List Int} (h : TX T cs) {p : Int} (hp : 0 ≤ p) : 32 ≤ hrT T p ∧ hrT T p ≤ 126 := by
  unfold hrT
  split
  · have := (h.2.2 p.toNat (by have := h.1; omega)).2
    rw [show ((p.toNat : Nat) : Int) = p by omega] at this
    omega
  · omega
theorem hr_ch {T : Nat → Int → Int} {p c : Int} (hc : c ≠ 32 ∧ c ≠ -1) : hrT T p = c ↔ chT T p = c := by
  unfold hrT chT
  split
  · exact Iff.rfl
  · constructor <;> intro h <;> omega
abbrev rdE (x l : Nat) (p b : Int) : yE := .inr (6, [.ref x, .ref l, .int (iI p), .int (iI b)])
/-- a digit is read: the place, the fault, the value -/
def dgS (T : Nat → Int → Int) (hi p b : Int) : Int × Int × Int := if b = 0 ∧ 48 ≤ hrT T p ∧ hrT T p ≤ hi then (p + 1, b, hrT T p - 48) else (p, 1, 0)
def tkS (T : Nat → Int → Int) (c p b : Int) : Int × Int := if b = 0 ∧ hrT T p = c then (p + 1, 1) else (p, 0)
def nuS (T : Nat → Int → Int) (p b : Int) : Int × Int × Int := if (dgS T 57 p b).2.1 = 0 ∧ 48 ≤ hrT T (dgS T 57 p b).1 ∧ hrT T (dgS T 57 p b).1 ≤ 57 then ((dgS T 57 p b).1 + 1, 0, 10 * (dgS T 57 p b).2.2 + (hrT T (dgS T 57 p b).1 - 48)) else dgS T 57 p b
end Re
section X7a
variable {Γ : yG} {G : yH} {T : Nat → Int → Int} {cs : List Int} {r x l : Nat} {τ : Nat × Nat} {t : yT} {p b : Int}
set_option maxHeartbeats 4000000
theorem c_X7_here (hr : G r = some (some τ, rdE x l p b)) (hx : isStr G t x cs) (hT : TX T cs) (hp : 0 ≤ p ∧ p ≤ 61) : Ct_X7_here Γ 5 0 0 [.ref r] (G) (fun v G' => v = some (.int (iI (hrT T p))) ∧ G' = G) (noX) := by
  refine y_start (lv0 := [some (.ref r)]) (nm := "here") (own := RX7) (by decide +kernel) rfl rfl (by exact Nat.le_of_ble_eq_true rfl) (by rfl) ?_
  intro Z Q E F
  have h17 := hT.1
  have h60 := hT.2.1
  have hin := hrT_in hT hp.1
  have hat : p < T 17 0 → cs[p.toNat]? = some (T 15 p) ∧ 33 ≤ T 15 p ∧ T 15 p ≤ 126 := fun h => by
    have := hT.2.2 p.toNat (by omega)
    rw [show ((p.toNat : Nat) : Int) = p by omega] at this
    exact this
  have hpe : (((p.toNat : Nat)) : Int) = p := by omega
  obtain ⟨fx, hxc⟩ : ∃ fx, G x = some (t, .inr (16, fx)) := by
    obtain ⟨q, f, h, z, h1, -⟩ := hx
    exact ⟨_, h1⟩
  first | refine y_ald_n E dX7_here_0 (by rfl) ?_ | refine y_aload_n E dX7_here_0 (by rfl) ?_
  refine y_get E dX7_here_1 fl_X7_38_X7 (hr) (by rfl) ?_
  first | refine y_ald_n E dX7_here_4 (by rfl) ?_ | refine y_aload_n E dX7_here_4 (by rfl) ?_
  refine y_get E dX7_here_5 fl_X7_18_X7 (hr) (by rfl) ?_
  refine y_callF E dX7_here_8 lk_X7_42_J7 (c_J7_length hx (by have := hT.2.1; omega)) (by rfl) (hxc) rfl (by decide) (by omega) (by omega) rfl (Nat.le_of_ble_eq_true rfl) ?_ (fun _ _ _ h => h.elim)
  rintro _ _ ⟨rfl, hG9⟩
  rw [hG9]
  clear hG9
  refine y_icmp_ge (tgt := 32) E dX7_here_13 (by decide) (by omega) (by omega) (fun h13 => ?_) (fun h13 => ?_)
  · refine y_bipush E dX7_here_32 (by decide) ?_
    refine y_ireturn E F rfl (nar_c (by omega)) dX7_here_34 (by omega) (by omega) ⟨(rI (by unfold hrT; first | (rw [if_pos (by omega)]; done) | (rw [if_neg (by omega)]; done))), rfl⟩
  · first | refine y_ald_n E dX7_here_16 (by rfl) ?_ | refine y_aload_n E dX7_here_16 (by rfl) ?_
    refine y_get E dX7_here_17 fl_X7_18_X7 (hr) (by rfl) ?_
    first | refine y_ald_n E dX7_here_20 (by rfl) ?_ | refine y_aload_n E dX7_here_20 (by rfl) ?_
    refine y_get E dX7_here_21 fl_X7_38_X7 (hr) (by rfl) ?_
    rw [← hpe]
    refine y_callF E dX7_here_24 lk_X7_48_J7 (c_J7_charAt (i := p.toNat) hx (hat (by omega)).1 (by have := hT.2.1; omega)) (by rfl) (hxc) rfl (by decide) (by omega) (by omega) rfl (Nat.le_of_ble_eq_true rfl) ?_ (fun _ _ _ h => h.elim)
    rintro _ _ ⟨rfl, hG9⟩
    rw [hG9]
    clear hG9
    refine y_goto (tgt := 34) E dX7_here_29 (by decide) ?_
    refine y_ireturn E F rfl (nar_c (by omega)) dX7_here_34 (by omega) (by omega) ⟨(rI (by unfold hrT; first | (rw [if_pos (by omega)]; done) | (rw [if_neg (by omega)]; done))), rfl⟩
theorem isStr.c {a : Nat} {cs : List Int} (H : isStr G t a cs) : ∃ fx, G a = some (t, .inr (16, fx)) := by
  obtain ⟨q, f, h, z, h1, -⟩ := H
  exact ⟨_, h1⟩
theorem c_X7_digit {hi : Int} {σ : Nat × Nat} (hσ : σ ≠ τ) (hr : G r = some (some τ, rdE x l p b)) (hx : isStr G (some σ) x cs) (hT : TX T cs) (hp : 0 ≤ p ∧ p ≤ 60) (hb : b = 0 ∨ b = 1) (hh : 48 ≤ hi ∧ hi ≤ 57) : Ct_X7_digit Γ 6 0 0 [.ref r, .int (iI hi)] (G) (fun v G' => v = some (.int (iI (dgS T hi p b).2.2)) ∧ G' = gset G r (some τ, rdE x l (dgS T hi p b).1 (dgS T hi p b).2.1)) (noX) := by
  refine y_start (lv0 := [some (.ref r), some (.int (iI hi))]) (nm := "digit") (own := RX7) (by decide +kernel) rfl rfl (by exact Nat.le_of_ble_eq_true rfl) (by rfl) ?_
  intro Z Q E F
  have h17 := hT.1
  have h60 := hT.2.1
  have hin := hrT_in hT hp.1
  have hpe : (((p.toNat : Nat)) : Int) = p := by omega
  obtain ⟨fx, hxc⟩ := hx.c
  have hpt : 48 ≤ hrT T p → p < T 17 0 ∧ T 15 p = hrT T p := fun h => by
    unfold hrT at h ⊢
    split at h
    · rename_i e
      rw [if_pos e]
      exact ⟨e, rfl⟩
    · omega
  have hrx : ∀ v, (gset G r (some τ, v)) x = some (some σ, .inr (16, fx)) := fun v => gs_n (g_ne hxc hr (by simp)) hxc
  have hx2 : ∀ v, isStr (gset G r (some τ, rdE x l v b)) (some σ) x cs := fun v => hx.kk (gK_w (P := (· = τ)) _ hr rfl) hσ
  have no : ¬ (b = 0 ∧ 48 ≤ hrT T p ∧ hrT T p ≤ hi) → dgS T hi p b = (p, 1, 0) := fun h => if_neg h
  have K24 : ¬ (b = 0 ∧ 48 ≤ hrT T p ∧ hrT T p ≤ hi) → Y Γ Z 0 0 Q G 24 [some (.ref r), some (.int (iI hi))] [] := by
    intro hn
    first | refine y_ald_n E dX7_digit_24 (by rfl) ?_ | refine y_aload_n E dX7_digit_24 (by rfl) ?_
    refine y_iconst E dX7_digit_25 ?_
    refine y_put E dX7_digit_26 fl_X7_34_X7 fw_X7_3 (nar_z (by omega)) (fit_z (by omega)) (hr) (Nat.le_of_ble_eq_true rfl) ?_
    refine y_iconst E dX7_digit_29 ?_
    refine y_ireturn E F rfl rfl dX7_digit_30 (by omega) (by omega) ⟨by rw [no hn], by rw [no hn]; rfl⟩
  have yes : (b = 0 ∧ 48 ≤ hrT T p ∧ hrT T p ≤ hi) → dgS T hi p b = (p + 1, b, hrT T p - 48) := fun h => if_pos h
  first | refine y_ald_n E dX7_digit_0 (by rfl) ?_ | refine y_aload_n E dX7_digit_0 (by rfl) ?_
  refine y_get E dX7_digit_1 fl_X7_34_X7 (hr) (by rfl) ?_
  refine y_if_ne (tgt := 24) E dX7_digit_4 (by decide) (by omega) (fun h4 => ?_) (fun h4 => ?_)
  · exact K24 (fun q => by omega)
  · first | refine y_ald_n E dX7_digit_7 (by rfl) ?_ | refine y_aload_n E dX7_digit_7 (by rfl) ?_
    refine y_callV E dX7_digit_8 lk_X7_52 (c_X7_here hr hx hT (by omega)) (by rfl) (hr) rfl (by decide) (by omega) (by omega) rfl (Nat.le_of_ble_eq_true rfl) ?_ (fun _ _ _ h => h.elim)
    rintro _ _ ⟨rfl, hG9⟩
    rw [hG9]
    clear hG9
    refine y_bipush E dX7_digit_11 (by decide) ?_
    refine y_icmp_lt (tgt := 24) E dX7_digit_13 (by decide) (by omega) (by omega) (fun h13 => ?_) (fun h13 => ?_)
    · exact K24 (fun q => by omega)
    · first | refine y_ald_n E dX7_digit_16 (by rfl) ?_ | refine y_aload_n E dX7_digit_16 (by rfl) ?_
      refine y_callV E dX7_digit_17 lk_X7_52 (c_X7_here hr hx hT (by omega)) (by rfl) (hr) rfl (by decide) (by omega) (by omega) rfl (Nat.le_of_ble_eq_true rfl) ?_ (fun _ _ _ h => h.elim)
      rintro _ _ ⟨rfl, hG9⟩
      rw [hG9]
      clear hG9
      refine y_iload_n E dX7_digit_20 (by rfl) ?_
      refine y_icmp_le (tgt := 31) E dX7_digit_21 (by decide) (by omega) (by omega) (fun h21 => ?_) (fun h21 => ?_)
      · first | refine y_ald_n E dX7_digit_31 (by rfl) ?_ | refine y_aload_n E dX7_digit_31 (by rfl) ?_
        refine y_dup E dX7_digit_32 rfl ?_
        refine y_get E dX7_digit_33 fl_X7_38_X7 (hr) (by rfl) ?_
        refine y_iconst E dX7_digit_36 ?_
        refine y_iadd E dX7_digit_37 ?_
        refine y_put E dX7_digit_38 fl_X7_38_X7 fw_X7_2 rfl (by rfl) (hr) (Nat.le_of_ble_eq_true rfl) ?_
        have hr := gset_s G r (some τ, rdE x l (p + 1) b)
        have hxc := hrx (.inr (6, [.ref x, .ref l, .int (iI (p + 1)), .int (iI b)]))
        first | refine y_ald_n E dX7_digit_41 (by rfl) ?_ | refine y_aload_n E dX7_digit_41 (by rfl) ?_
        refine y_get E dX7_digit_42 fl_X7_18_X7 (hr) (by rfl) ?_
        first | refine y_ald_n E dX7_digit_45 (by rfl) ?_ | refine y_aload_n E dX7_digit_45 (by rfl) ?_
        refine y_get E dX7_digit_46 fl_X7_38_X7 (hr) (by rfl) ?_
        refine y_iconst E dX7_digit_49 ?_
        refine y_isub E dX7_digit_50 ?_
        rw [show p + 1 - 1 = ((p.toNat : Nat) : Int) by omega]
        refine y_callF E dX7_digit_51 lk_X7_48_J7 (c_J7_charAt (i := p.toNat) (hx2 (p + 1)) (x := T 15 p) ?_ (by omega)) (by rfl) (hxc) rfl (by decide) (by omega) (by omega) rfl (Nat.le_of_ble_eq_true rfl) ?_ (fun _ _ _ h => h.elim)
        · (have e := hpt (by omega); have q := (hT.2.2 p.toNat (by omega)).1; rw [hpe] at q; exact q)
        rintro _ _ ⟨rfl, hG9⟩
        rw [hG9]
        clear hG9
        refine y_bipush E dX7_digit_56 (by decide) ?_
        refine y_isub E dX7_digit_58 ?_
        refine y_ireturn E F rfl rfl dX7_digit_59 (by omega) (by omega) ⟨by rw [yes ⟨by omega, by omega, by omega⟩, (hpt (by omega)).2], by rw [yes ⟨by omega, by omega, by omega⟩]; rfl⟩
      · exact K24 (fun q => by omega)
theorem c_X7_takes {c : Int} (hr : G r = some (some τ, rdE x l p b)) (hx : isStr G t x cs) (hT : TX T cs) (hp : 0 ≤ p ∧ p ≤ 60) (hb : b = 0 ∨ b = 1) (hh : 0 ≤ c ∧ c ≤ 127) : Ct_X7_takes Γ 6 0 0 [.ref r, .int (iI c)] (G) (fun v G' => v = some (.int (iI (tkS T c p b).2)) ∧ G' = gset G r (some τ, rdE x l (tkS T c p b).1 b)) (noX) := by
  refine y_start (lv0 := [some (.ref r), some (.int (iI c)), none]) (nm := "takes") (own := RX7) (by decide +kernel) rfl rfl (by exact Nat.le_of_ble_eq_true rfl) (by rfl) ?_
  intro Z Q E F
  have hin := hrT_in hT hp.1
  have yes : (b = 0 ∧ hrT T p = c) → tkS T c p b = (p + 1, 1) := fun h => if_pos h
  have no : ¬ (b = 0 ∧ hrT T p = c) → tkS T c p b = (p, 0) := fun h => if_neg h
  first | refine y_ald_n E dX7_takes_0 (by rfl) ?_ | refine y_aload_n E dX7_takes_0 (by rfl) ?_
  refine y_get E dX7_takes_1 fl_X7_34_X7 (hr) (by rfl) ?_
  refine y_if_ne (tgt := 19) E dX7_takes_4 (by decide) (by omega) (fun h4 => ?_) (fun h4 => ?_)
  · refine y_iconst E dX7_takes_19 ?_
    refine y_istore_n (j := 2) E dX7_takes_20 rfl (Nat.le_of_ble_eq_true rfl) ?_
    first | refine y_ald_n E dX7_takes_21 (by rfl) ?_ | refine y_aload_n E dX7_takes_21 (by rfl) ?_
    refine y_dup E dX7_takes_22 rfl ?_
    refine y_get E dX7_takes_23 fl_X7_38_X7 (hr) (by rfl) ?_
    refine y_iload_n E dX7_takes_26 (by rfl) ?_
    refine y_if_eq (tgt := 34) E dX7_takes_27 (by decide) (by decide) (fun _ => ?_) (fun h => absurd h (by decide))
    refine y_iconst E dX7_takes_34 ?_
    refine y_iadd E dX7_takes_35 ?_
    refine y_put E dX7_takes_36 fl_X7_38_X7 fw_X7_2 rfl (by rfl) (hr) (Nat.le_of_ble_eq_true rfl) ?_
    refine y_iload_n E dX7_takes_39 (by rfl) ?_
    refine y_ireturn E F rfl rfl dX7_takes_40 (by omega) (by omega) (by first
        | (rw [yes ⟨by omega, by omega⟩]; exact ⟨rfl, rfl⟩)
        | (rw [no (fun q => by omega)]; exact ⟨rfl, by rw [Int.add_zero]; rfl⟩))
  · first | refine y_ald_n E dX7_takes_7 (by rfl) ?_ | refine y_aload_n E dX7_takes_7 (by rfl) ?_
    refine y_callV E dX7_takes_8 lk_X7_52 (c_X7_here hr hx hT (by omega)) (by rfl) (hr) rfl (by decide) (by omega) (by omega) rfl (Nat.le_of_ble_eq_true rfl) ?_ (fun _ _ _ h => h.elim)
    rintro _ _ ⟨rfl, hG9⟩
    rw [hG9]
    clear hG9
    refine y_iload_n E dX7_takes_11 (by rfl) ?_
    refine y_icmp_ne (tgt := 19) E dX7_takes_12 (by decide) (by omega) (by omega) (fun h12 => ?_) (fun h12 => ?_)
    · refine y_iconst E dX7_takes_19 ?_
      refine y_istore_n (j := 2) E dX7_takes_20 rfl (Nat.le_of_ble_eq_true rfl) ?_
      first | refine y_ald_n E dX7_takes_21 (by rfl) ?_ | refine y_aload_n E dX7_takes_21 (by rfl) ?_
      refine y_dup E dX7_takes_22 rfl ?_
      refine y_get E dX7_takes_23 fl_X7_38_X7 (hr) (by rfl) ?_
      refine y_iload_n E dX7_takes_26 (by rfl) ?_
      refine y_if_eq (tgt := 34) E dX7_takes_27 (by decide) (by decide) (fun _ => ?_) (fun h => absurd h (by decide))
      refine y_iconst E dX7_takes_34 ?_
      refine y_iadd E dX7_takes_35 ?_
      refine y_put E dX7_takes_36 fl_X7_38_X7 fw_X7_2 rfl (by rfl) (hr) (Nat.le_of_ble_eq_true rfl) ?_
      refine y_iload_n E dX7_takes_39 (by rfl) ?_
      refine y_ireturn E F rfl rfl dX7_takes_40 (by omega) (by omega) (by first
          | (rw [yes ⟨by omega, by omega⟩]; exact ⟨rfl, rfl⟩)
          | (rw [no (fun q => by omega)]; exact ⟨rfl, by rw [Int.add_zero]; rfl⟩))
    · refine y_iconst E dX7_takes_15 ?_
      refine y_goto (tgt := 20) E dX7_takes_16 (by decide) ?_
      refine y_istore_n (j := 2) E dX7_takes_20 rfl (Nat.le_of_ble_eq_true rfl) ?_
      first | refine y_ald_n E dX7_takes_21 (by rfl) ?_ | refine y_aload_n E dX7_takes_21 (by rfl) ?_
      refine y_dup E dX7_takes_22 rfl ?_
      refine y_get E dX7_takes_23 fl_X7_38_X7 (hr) (by rfl) ?_
      refine y_iload_n E dX7_takes_26 (by rfl) ?_
      refine y_if_eq (tgt := 34) E dX7_takes_27 (by decide) (by decide) (fun h => absurd h (by decide)) (fun _ => ?_)
      refine y_iconst E dX7_takes_30 ?_
      refine y_goto (tgt := 35) E dX7_takes_31 (by decide) ?_
      refine y_iadd E dX7_takes_35 ?_
      refine y_put E dX7_takes_36 fl_X7_38_X7 fw_X7_2 rfl (by rfl) (hr) (Nat.le_of_ble_eq_true rfl) ?_
      refine y_iload_n E dX7_takes_39 (by rfl) ?_
      refine y_ireturn E F rfl rfl dX7_takes_40 (by omega) (by omega) (by first
          | (rw [yes ⟨by omega, by omega⟩]; exact ⟨rfl, rfl⟩)
          | (rw [no (fun q => by omega)]; exact ⟨rfl, by rw [Int.add_zero]; rfl⟩))
theorem dgS_b {T : Nat → Int → Int} {hi p b : Int} (hb : b = 0 ∨ b = 1) : ((dgS T hi p b).2.1 = 0 ∨ (dgS T hi p b).2.1 = 1) ∧ p ≤ (dgS T hi p b).1 ∧ (dgS T hi p b).1 ≤ p + 1 ∧ 0 ≤ (dgS T hi p b).2.2 ∧ (dgS T hi p b).2.2 ≤ max 0 (hi - 48) ∧ ((dgS T hi p b).2.1 = 0 → b = 0 ∧ 48 ≤ hrT T p ∧ hrT T p ≤ hi ∧ dgS T hi p b = (p + 1, b, hrT T p - 48)) := by
  unfold dgS
  split
  · rename_i h
    refine ⟨Or.inl h.1, ?_, ?_, ?_, ?_, fun _ => ⟨h.1, h.2.1, h.2.2, rfl⟩⟩ <;> simp only <;> omega
  · refine ⟨Or.inr rfl, ?_, ?_, ?_, ?_, fun q => by cases q⟩ <;> simp only <;> omega
theorem c_X7_number {σ : Nat × Nat} (hσ : σ ≠ τ) (hr : G r = some (some τ, rdE x l p b)) (hx : isStr G (some σ) x cs) (hT : TX T cs) (hp : 0 ≤ p ∧ p ≤ 60) (hb : b = 0 ∨ b = 1) : Ct_X7_number Γ 7 0 0 [.ref r] (G) (fun v G' => v = some (.int (iI (nuS T p b).2.2)) ∧ G' = gset G r (some τ, rdE x l (nuS T p b).1 (nuS T p b).2.1)) (noX) := by
  refine y_start (lv0 := [some (.ref r), none]) (nm := "number") (own := RX7) (by decide +kernel) rfl rfl (by exact Nat.le_of_ble_eq_true rfl) (by rfl) ?_
  intro Z Q E F
  have h17 := hT.1
  have h60 := hT.2.1
  obtain ⟨d, hd⟩ : ∃ d, d = dgS T 57 p b := ⟨_, rfl⟩
  have hdb := dgS_b (T := T) (hi := 57) (p := p) hb
  rw [← hd] at hdb
  obtain ⟨d1, d2, d3⟩ := d
  simp only at hdb
  obtain ⟨e1, e2, e3, e4, e5, e6⟩ := hdb
  have hlt : d2 = 0 → p < T 17 0 := fun q => by
    have := e6 q
    unfold hrT at this
    split at this
    · assumption
    · omega
  have hin := hrT_in hT (p := d1) (by omega)
  have h1 := gset_s G r (some τ, rdE x l d1 d2)
  have hx1 : isStr (gset G r (some τ, rdE x l d1 d2)) (some σ) x cs := hx.kk (gK_w (P := (· = τ)) _ hr rfl) hσ
  have hnu : nuS T p b = if d2 = 0 ∧ 48 ≤ hrT T d1 ∧ hrT T d1 ≤ 57 then (d1 + 1, 0, 10 * d3 + (hrT T d1 - 48)) else (d1, d2, d3) := by unfold nuS; rw [← hd]
  have hd2 : (d2 = 0 ∧ 48 ≤ hrT T d1 ∧ hrT T d1 ≤ 57) → dgS T 57 d1 d2 = (d1 + 1, d2, hrT T d1 - 48) := fun h => if_pos h
  first | refine y_ald_n E dX7_number_0 (by rfl) ?_ | refine y_aload_n E dX7_number_0 (by rfl) ?_
  refine y_bipush E dX7_number_1 (by decide) ?_
  refine y_callV E dX7_number_3 lk_X7_56 (c_X7_digit (hi := 57) hσ hr hx hT hp hb (by omega)) (by rfl) (hr) rfl (by decide) (by omega) (by omega) rfl (Nat.le_of_ble_eq_true rfl) ?_ (fun _ _ _ h => h.elim)
  rintro _ _ ⟨rfl, hG9⟩
  rw [hG9]
  clear hG9
  rw [← hd]
  have hr := h1
  simp only
  refine y_istore_n (j := 1) E dX7_number_6 rfl (Nat.le_of_ble_eq_true rfl) ?_
  first | refine y_ald_n E dX7_number_7 (by rfl) ?_ | refine y_aload_n E dX7_number_7 (by rfl) ?_
  refine y_get E dX7_number_8 fl_X7_34_X7 (hr) (by rfl) ?_
  refine y_if_ne (tgt := 46) E dX7_number_11 (by decide) (by omega) (fun h11 => ?_) (fun h11 => ?_)
  · refine y_iload_n E dX7_number_46 (by rfl) ?_
    refine y_ireturn E F rfl rfl dX7_number_47 (by omega) (by omega) (by first
        | (rw [hnu, if_pos ⟨by omega, by omega, by omega⟩, hd2 ⟨by omega, by omega, by omega⟩, gset_gset, show d2 = 0 by omega]; exact ⟨rfl, rfl⟩)
        | (rw [hnu, if_neg (fun q => by omega)]; exact ⟨rfl, rfl⟩))
  · first | refine y_ald_n E dX7_number_14 (by rfl) ?_ | refine y_aload_n E dX7_number_14 (by rfl) ?_
    refine y_callV E dX7_number_15 lk_X7_52 (c_X7_here h1 hx1 hT (by omega)) (by rfl) (hr) rfl (by decide) (by omega) (by omega) rfl (Nat.le_of_ble_eq_true rfl) ?_ (fun _ _ _ h => h.elim)
    rintro _ _ ⟨rfl, hG9⟩
    rw [hG9]
    clear hG9
    refine y_bipush E dX7_number_18 (by decide) ?_
    refine y_icmp_lt (tgt := 46) E dX7_number_20 (by decide) (by omega) (by omega) (fun h20 => ?_) (fun h20 => ?_)
    · refine y_iload_n E dX7_number_46 (by rfl) ?_
      refine y_ireturn E F rfl rfl dX7_number_47 (by omega) (by omega) (by first
          | (rw [hnu, if_pos ⟨by omega, by omega, by omega⟩, hd2 ⟨by omega, by omega, by omega⟩, gset_gset, show d2 = 0 by omega]; exact ⟨rfl, rfl⟩)
          | (rw [hnu, if_neg (fun q => by omega)]; exact ⟨rfl, rfl⟩))
    · first | refine y_ald_n E dX7_number_23 (by rfl) ?_ | refine y_aload_n E dX7_number_23 (by rfl) ?_
      refine y_callV E dX7_number_24 lk_X7_52 (c_X7_here h1 hx1 hT (by omega)) (by rfl) (hr) rfl (by decide) (by omega) (by omega) rfl (Nat.le_of_ble_eq_true rfl) ?_ (fun _ _ _ h => h.elim)
      rintro _ _ ⟨rfl, hG9⟩
      rw [hG9]
      clear hG9
      refine y_bipush E dX7_number_27 (by decide) ?_
      refine y_icmp_gt (tgt := 46) E dX7_number_29 (by decide) (by omega) (by omega) (fun h29 => ?_) (fun h29 => ?_)
      · refine y_iload_n E dX7_number_46 (by rfl) ?_
        refine y_ireturn E F rfl rfl dX7_number_47 (by omega) (by omega) (by first
            | (rw [hnu, if_pos ⟨by omega, by omega, by omega⟩, hd2 ⟨by omega, by omega, by omega⟩, gset_gset, show d2 = 0 by omega]; exact ⟨rfl, rfl⟩)
            | (rw [hnu, if_neg (fun q => by omega)]; exact ⟨rfl, rfl⟩))
      · refine y_bipush E dX7_number_32 (by decide) ?_
        refine y_iload_n E dX7_number_34 (by rfl) ?_
        refine y_imul E dX7_number_35 ?_
        first | refine y_ald_n E dX7_number_36 (by rfl) ?_ | refine y_aload_n E dX7_number_36 (by rfl) ?_
        refine y_bipush E dX7_number_37 (by decide) ?_
        refine y_callV E dX7_number_39 lk_X7_56 (c_X7_digit (hi := 57) hσ h1 hx1 hT (by omega) e1 (by omega)) (by rfl) (hr) rfl (by decide) (by omega) (by omega) rfl (Nat.le_of_ble_eq_true rfl) ?_ (fun _ _ _ h => h.elim)
        rintro _ _ ⟨rfl, hG9⟩
        rw [hG9]
        clear hG9
        refine y_iadd E dX7_number_42 ?_
        refine y_goto (tgt := 47) E dX7_number_43 (by decide) ?_
        refine y_ireturn E F rfl rfl dX7_number_47 (by omega) (by omega) (by first
            | (rw [hnu, if_pos ⟨by omega, by omega, by omega⟩, hd2 ⟨by omega, by omega, by omega⟩, gset_gset, show d2 = 0 by omega]; exact ⟨rfl, rfl⟩)
            | (rw [hnu, if_neg (fun q => by omega)]; exact ⟨rfl, rfl⟩))
end X7a
