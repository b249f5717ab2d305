/-! ===== the component: the picture of its cells; its small methods ===== -/
section Co
abbrev CF : Type := Nat × Option Nat × Nat × Nat × Nat × Nat × Nat
def kSt (C : CF) : Nat := C.1
def kSv (C : CF) : Option Nat := C.2.1
def kHi (C : CF) : Nat := C.2.2.1
def kIn (C : CF) : Nat := C.2.2.2.1
def kWd (C : CF) : Nat := C.2.2.2.2.1
def kLa (C : CF) : Nat := C.2.2.2.2.2.1
def kSd (C : CF) : Nat := C.2.2.2.2.2.2
/-- the object: whether a word has come, the place of the fault -/
abbrev coE (C : CF) (hc fp : Int) : yE := .inr (4, [.ref (kSt C), va_rf (kSv C), .ref (kHi C), .ref (kIn C), .ref (kWd C), .int (iI hc), .int (iI fp), .ref (kLa C), .ref (kSd C)])
/-- the numbers of the state graphs: of the state, the saved one, the history -/
abbrev ID : Type := Nat × Nat × (Nat → Nat)
def idOK (N : Nat) (I : ID) (n : Int) : Prop := (2 ≤ I.1 ∧ I.1 ≤ N) ∧ (2 ≤ I.2.1 ∧ I.2.1 ≤ N) ∧ I.1 ≠ I.2.1 ∧ ∀ k : Nat, (k : Int) < n → (2 ≤ I.2.2 k ∧ I.2.2 k ≤ N) ∧ I.2.2 k ≠ I.1 ∧ I.2.2 k ≠ I.2.1 ∧ ∀ j : Nat, j < k → I.2.2 j ≠ I.2.2 k
def cpV (Γ : yG) (G : yH) (sv : Option Nat) (i : Nat) (b : Int) (w : Int → Int) : Prop := (b = 0 ∧ sv = none) ∨ (b = 1 ∧ ∃ a S, sv = some a ∧ isST Γ G i a S w)
def cpH (Γ : yG) (G : yH) (h : Nat) (hid : Nat → Nat) (n : Int) (R : Int → Int → Int) : Prop := ∃ hs : Nat → Nat, isLL G (0, 2) h (((List.range n.toNat).map hs).map some) ∧ ∀ k : Nat, (k : Int) < n → ∃ S, isST Γ G (hid k) (hs k) S (R k)
/-- a text of n characters -/
def txL (n : Int) (x : Int → Int) (cs : List Int) (m : Nat) : Prop := n = cs.length ∧ cs.length ≤ m ∧ ∀ i : Nat, i < cs.length → cs[i]? = some (x i) ∧ 33 ≤ x i ∧ x i ≤ 126
def cpT (G : yH) (τ : Nat × Nat) (i : Nat) (n : Int) (x : Int → Int) (m : Nat) : Prop := ∃ cs, isSB G τ i cs 0 ∧ txL n x cs m
def cpL (Γ : yG) (G : yH) (l : Nat) (n : Int) (x : Int → Int) : Prop := 0 ≤ n ∧ n ≤ 2 ∧ ∃ ls : Nat → Nat, isAL Γ G (0, 5) l ((List.range n.toNat).map ls) ∧ ∀ k : Nat, (k : Int) < n → G (ls k) = some (some (0, 6), rfE (x (2 * k)) (x (2 * k + 1)))
/-- a row of the history -/
def kRow (T : Nat → Int → Int) (k : Int) : Int → Int := fun j => if 0 ≤ j ∧ j < 128 then T 6 (128 * ((T 10 0 + k) % 8) + j) else 0
def hcS (T : Nat → Int → Int) : Int := b2i (dB (T 18 0 ≠ 0))
/-- the component's cells, told by the twin's rows -/
def isC (Γ : yG) (G : yH) (N x : Nat) (C : CF) (I : ID) (S : SA) (T : Nat → Int → Int) : Prop :=
  G x = some (some (0, 1), coE C (hcS T) (T 24 0)) ∧ idOK N I (T 9 0) ∧ isST Γ G I.1 (kSt C) S (T 5) ∧ cpV Γ G (kSv C) I.2.1 (T 11 0) (T 7) ∧ (0 ≤ T 9 0 ∧ T 9 0 ≤ 8 ∧ 0 ≤ T 10 0 ∧ T 10 0 ≤ 7) ∧ cpH Γ G (kHi C) I.2.2 (T 9 0) (kRow T) ∧ cpT G (0, 3) (kIn C) (T 17 0) (T 15) 60 ∧ cpT G (0, 4) (kWd C) (T 18 0) (T 16) 24 ∧ cpL Γ G (kLa C) (T 3 0) (T 4) ∧ isLN G (0, 7) (kSd C) (yad Γ 0) (yad Γ 1) (yad Γ 2)
section
variable {Γ : yG} {G : yH} {N x : Nat} {C : CF} {I : ID} {S : SA} {T : Nat → Int → Int}
theorem isC.o (h : isC Γ G N x C I S T) : G x = some (some (0, 1), coE C (hcS T) (T 24 0)) := h.1
theorem isC.id (h : isC Γ G N x C I S T) : idOK N I (T 9 0) := h.2.1
theorem isC.s (h : isC Γ G N x C I S T) : isST Γ G I.1 (kSt C) S (T 5) := h.2.2.1
theorem isC.v (h : isC Γ G N x C I S T) : cpV Γ G (kSv C) I.2.1 (T 11 0) (T 7) := h.2.2.2.1
theorem isC.n (h : isC Γ G N x C I S T) : 0 ≤ T 9 0 ∧ T 9 0 ≤ 8 ∧ 0 ≤ T 10 0 ∧ T 10 0 ≤ 7 := h.2.2.2.2.1
theorem isC.h (h : isC Γ G N x C I S T) : cpH Γ G (kHi C) I.2.2 (T 9 0) (kRow T) := h.2.2.2.2.2.1
theorem isC.i (h : isC Γ G N x C I S T) : cpT G (0, 3) (kIn C) (T 17 0) (T 15) 60 := h.2.2.2.2.2.2.1
theorem isC.w (h : isC Γ G N x C I S T) : cpT G (0, 4) (kWd C) (T 18 0) (T 16) 24 := h.2.2.2.2.2.2.2.1
theorem isC.l (h : isC Γ G N x C I S T) : cpL Γ G (kLa C) (T 3 0) (T 4) := h.2.2.2.2.2.2.2.2.1
theorem isC.d (h : isC Γ G N x C I S T) : isLN G (0, 7) (kSd C) (yad Γ 0) (yad Γ 1) (yad Γ 2) := h.2.2.2.2.2.2.2.2.2
/-- the tags of the component's cells -/
def kTag (N : Nat) (t : Nat × Nat) : Prop := (t.1 = 0 ∧ t.2 ≤ 9) ∨ (2 ≤ t.1 ∧ t.1 ≤ N)
theorem cpV.kk {P : Nat × Nat → Prop} {G' : yH} {sv : Option Nat} {i : Nat} {b : Int} {w : Int → Int} (hB : gB Γ G) (h : cpV Γ G sv i b w) (hk : gK P G G') (hP : ∀ j, ¬ P (i, j)) : cpV Γ G' sv i b w := h.imp id (fun ⟨h1, a, S, h2, h3⟩ => ⟨h1, a, S, h2, h3.kk hB hk hP⟩)
theorem cpH.kk {P : Nat × Nat → Prop} {G' : yH} {h : Nat} {hid : Nat → Nat} {n : Int} {R : Int → Int → Int} (hB : gB Γ G) (H : cpH Γ G h hid n R) (hk : gK P G G') (hP : ¬ P (0, 2)) (hQ : ∀ k : Nat, (k : Int) < n → ∀ j, ¬ P (hid k, j)) : cpH Γ G' h hid n R := by
  obtain ⟨hs, h1, h2⟩ := H
  refine ⟨hs, h1.kk hk hP, fun k hk9 => ?_⟩
  obtain ⟨S, h3⟩ := h2 k hk9
  exact ⟨S, h3.kk hB hk (hQ k hk9)⟩
theorem cpT.kk {P : Nat × Nat → Prop} {G' : yH} {τ : Nat × Nat} {i : Nat} {n : Int} {y : Int → Int} {m : Nat} (h : cpT G τ i n y m) (hk : gK P G G') (hP : ¬ P τ) : cpT G' τ i n y m := by
  obtain ⟨cs, h1, h2⟩ := h
  exact ⟨cs, h1.kk hk hP, h2⟩
theorem cpL.kk {P : Nat × Nat → Prop} {G' : yH} {l : Nat} {n : Int} {y : Int → Int} (hB : gB Γ G) (h : cpL Γ G l n y) (hk : gK P G G') (hP : ¬ P (0, 5)) (hQ : ¬ P (0, 6)) : cpL Γ G' l n y := by
  obtain ⟨h0, h1, ls, h2, h3⟩ := h
  exact ⟨h0, h1, ls, h2.kk hB hk hP, fun k hk9 => hk.at (h3 k hk9) hQ⟩
/-- all of it stays where no tag of it is touched -/
theorem isC.kk {P : Nat × Nat → Prop} {G' : yH} (hB : gB Γ G) (h : isC Γ G N x C I S T) (hk : gK P G G') (hP : ∀ t, kTag N t → ¬ P t) : isC Γ G' N x C I S T := by
  have hi := h.id
  have h0 : ∀ j, j ≤ 9 → ¬ P (0, j) := fun j hj => hP _ (Or.inl ⟨rfl, hj⟩)
  have h2 : ∀ i, 2 ≤ i ∧ i ≤ N → ∀ j, ¬ P (i, j) := fun i hi j => hP _ (Or.inr hi)
  exact ⟨hk.at h.o (h0 1 (by decide)), hi, h.s.kk hB hk (h2 _ hi.1), h.v.kk hB hk (h2 _ hi.2.1), h.n, h.h.kk hB hk (h0 2 (by decide)) (fun k hk9 => h2 _ (hi.2.2.2 k hk9).1), h.i.kk hk (h0 3 (by decide)), h.w.kk hk (h0 4 (by decide)), h.l.kk hB hk (h0 5 (by decide)) (h0 6 (by decide)), h.d.kk hk (h0 7 (by decide))⟩
theorem isC.e {G' : yH} (hB : gB Γ G) (h : isC Γ G N x C I S T) (hk : gExt G G') : isC Γ G' N x C I S T := h.kk hB (gK_e (P := fun _ => False) hk) (fun _ _ q => q)
/-- only the state changed -/
theorem isC.st {G' : yH} {S' : SA} {w : Int → Int} (hB : gB Γ G) (h : isC Γ G N x C I S T) (hk : gK (fun t => t.1 = I.1) G G') (hI : isST Γ G' I.1 (kSt C) S' w) : isC Γ G' N x C I S' (upN T 5 w) := by
  have hi := h.id
  have h0 : ∀ j, ¬ ((fun t : Nat × Nat => t.1 = I.1) (0, j)) := fun j q => by
    have := hi.1.1
    have q : 0 = I.1 := q
    omega
  exact ⟨hk.at h.o (h0 1), hi, hI, h.v.kk hB hk (fun j q => hi.2.2.1 (by have q : I.2.1 = I.1 := q; exact q.symm)), h.n, h.h.kk hB hk (h0 2) (fun k hk9 j q => (hi.2.2.2 k hk9).2.1 q), h.i.kk hk (h0 3), h.w.kk hk (h0 4), h.l.kk hB hk (h0 5) (h0 6), h.d.kk hk (h0 7)⟩
/-- only the input changed -/
theorem isC_in {G' : yH} {T' : Nat → Int → Int} {cs : List Int} (hB : gB Γ G) (h : isC Γ G N x C I S T) (hk : gK (· = (0, 3)) G G') (hb : isSB G' (0, 3) (kIn C) cs 0) (ht : txL (T' 17 0) (T' 15) cs 60) (hT : ∀ k, (k = 3 ∨ k = 4 ∨ k = 5 ∨ k = 6 ∨ k = 7 ∨ k = 9 ∨ k = 10 ∨ k = 11 ∨ k = 16 ∨ k = 18 ∨ k = 24) → T' k = T k := by intro k hk; rcases hk with rfl | rfl | rfl | rfl | rfl | rfl | rfl | rfl | rfl | rfl | rfl <;> rfl) : isC Γ G' N x C I S T' := by
  have hi := h.id
  have h2 : ∀ i, 2 ≤ i ∧ i ≤ N → ∀ j, ¬ ((i, j) = ((0, 3) : Nat × Nat)) := fun i hi j e => by cases e; omega
  unfold isC hcS
  have e6 : kRow T' = kRow T := by unfold kRow; rw [hT 6 (by omega), hT 10 (by omega)]
  rw [e6, hT 3 (by omega), hT 4 (by omega), hT 5 (by omega), hT 7 (by omega), hT 9 (by omega), hT 10 (by omega), hT 11 (by omega), hT 16 (by omega), hT 18 (by omega), hT 24 (by omega)]
  exact ⟨hk.at h.o (by decide), hi, h.s.kk hB hk (h2 _ hi.1), h.v.kk hB hk (h2 _ hi.2.1), h.n, h.h.kk hB hk (by decide) (fun k hk9 => h2 _ (hi.2.2.2 k hk9).1), ⟨cs, hb, ht⟩, h.w.kk hk (by decide), h.l.kk hB hk (by decide) (by decide), h.d.kk hk (by decide)⟩
/-- the rows that tell the component agree -/
theorem isC.c {T' : Nat → Int → Int} (h : isC Γ G N x C I S T) (hT : ∀ k, (k = 3 ∨ k = 4 ∨ k = 5 ∨ k = 6 ∨ k = 7 ∨ k = 9 ∨ k = 10 ∨ k = 11 ∨ k = 15 ∨ k = 16 ∨ k = 17 ∨ k = 18 ∨ k = 24) → T' k = T k) : isC Γ G N x C I S T' := by
  have e : isC Γ G N x C I S T' = isC Γ G N x C I S T := by
    unfold isC hcS kRow
    rw [hT 3 (by omega), hT 4 (by omega), hT 5 (by omega), hT 6 (by omega), hT 7 (by omega), hT 9 (by omega), hT 10 (by omega), hT 11 (by omega), hT 15 (by omega), hT 16 (by omega), hT 17 (by omega), hT 18 (by omega), hT 24 (by omega)]
  rw [e]
  exact h
theorem isC.f0 {f : Int → Int} (h : isC Γ G N x C I S T) : isC Γ G N x C I S (upN T 0 f) := h.c (fun k hk => upN_n _ (by omega))
end
/-- the exceptions of a method, by their numbers -/
def xs (l : List String) (c : Int) (E : String) : Prop := ∃ k : Nat, c = k + 1 ∧ l[k]? = some E
abbrev eI : String := "java/lang/IndexOutOfBoundsException"
abbrev eA : String := "java/lang/IllegalArgumentException"
abbrev eS : String := "java/lang/IllegalStateException"
abbrev eU : String := "java/lang/UnsupportedOperationException"
abbrev eN : String := "java/util/NoSuchElementException"
abbrev eM : String := "java/lang/ArithmeticException"
theorem xs_0 {E : String} {l : List String} {c : Int} (h : c = 1) : xs (E :: l) c E := ⟨0, by omega, rfl⟩
theorem xs_1 {E E0 : String} {l : List String} {c : Int} (h : c = 2) : xs (E0 :: E :: l) c E := ⟨1, by omega, rfl⟩
theorem xs_2 {E E0 E1 : String} {l : List String} {c : Int} (h : c = 3) : xs (E0 :: E1 :: E :: l) c E := ⟨2, by omega, rfl⟩
theorem xs_3 {E E0 E1 E2 : String} {l : List String} {c : Int} (h : c = 4) : xs (E0 :: E1 :: E2 :: E :: l) c E := ⟨3, by omega, rfl⟩
theorem dBb {P : Prop} (h : b2i (dB P) ≠ 0) : P := by
  by_cases p : P
  · exact p
  · rw [dB_f p] at h
    exact absurd rfl h
end Co
section X1a0
variable {Γ : yG} {G : yH}
theorem y_forgetX {Z : yZ} {k n : Nat} {Q : State → Prop} {G0 G : yH} {pc : Nat} {lv : List (Option Value)} {E : String} {q : Nat} (h : gExt G0 G) (K : Yx Γ Z k n Q G0 pc lv E q) : Yx Γ Z k n Q G pc lv E q := fun H locs ls rest ce a b c => K H locs ls rest ce (gR_e h a) b c
theorem c_AL_size {τ : Nat × Nat} {a : Nat} {ys : List Nat} (h : isAL Γ G τ a ys) : Ct_J2_size Γ 1 0 0 [.ref a] G (fun r G' => r = some (.int (iI ys.length)) ∧ G' = G) noX := by
  obtain ⟨mc, e, cap, f, te, h1, -⟩ := h
  exact c_J2_size h1
theorem c_AL_get {τ : Nat × Nat} {a y i : Nat} {ys : List Nat} (h : isAL Γ G τ a ys) (hy : ys[i]? = some y) : Ct_J2_get Γ 3 0 0 [.ref a, .int (iI (i : Int))] G (fun r G' => r = some (.ref y) ∧ G' = G) noX := by
  have hi : i < ys.length := by
    cases Nat.lt_or_ge i ys.length with
    | inl h => exact h
    | inr h =>
      rw [List.getElem?_eq_none h] at hy
      cases hy
  refine Ct_mono (c_J2_get (i := (i : Int)) h (by omega)) (fun v G' q => ?_) (fun E G' q => q)
  obtain ⟨⟨z, h1, h2⟩, h3⟩ := q
  rw [Int.toNat_natCast, hy] at h1
  cases h1
  exact ⟨h2, h3⟩
end X1a0
section X1a
variable {Γ : yG} {G : yH} {N x st : Nat} {C : CF} {I : ID} {S : SA} {T : Nat → Int → Int} {w : Int → Int} {t0 : yT} {hc fp : Int}
set_option maxHeartbeats 4000000
theorem c_X1_check_b {q : Prop} : Ct_X1_check Γ 2 1 6 [.int (iI (b2i (dB q)))] (G) (fun v G' => v = none ∧ q ∧ G' = G) (fun E G' => E = eA ∧ ¬ q ∧ G' = G) := by
  refine y_start (lv0 := [some (.int (iI (b2i (dB q))))]) (nm := "check") (own := RX1) (by decide +kernel) rfl rfl (by exact Nat.le_of_ble_eq_true rfl) (by rfl) ?_
  intro Z Q E F
  refine y_iload_n E dX1_check_0 (by rfl) ?_
  refine y_ifd_ne (tgt := 12) E dX1_check_1 (by decide) (fun h1 => ?_) (fun h1 => ?_)
  · refine y_return E F rfl dX1_check_12 (by omega) (by omega) ⟨rfl, h1, rfl⟩
  · refine y_throw E F th_66_68 dX1_check_4 dX1_check_7 dX1_check_8 dX1_check_11 (by decide) (Nat.le_of_ble_eq_true rfl) (by omega) (by omega) ⟨rfl, h1, rfl⟩
theorem c_X1_checkIndex_b {q : Prop} : Ct_X1_checkIndex Γ 2 1 6 [.int (iI (b2i (dB q)))] (G) (fun v G' => v = none ∧ q ∧ G' = G) (fun E G' => E = eI ∧ ¬ q ∧ G' = G) := by
  refine y_start (lv0 := [some (.int (iI (b2i (dB q))))]) (nm := "checkIndex") (own := RX1) (by decide +kernel) rfl rfl (by exact Nat.le_of_ble_eq_true rfl) (by rfl) ?_
  intro Z Q E F
  refine y_iload_n E dX1_checkIndex_0 (by rfl) ?_
  refine y_ifd_ne (tgt := 12) E dX1_checkIndex_1 (by decide) (fun h1 => ?_) (fun h1 => ?_)
  · refine y_return E F rfl dX1_checkIndex_12 (by omega) (by omega) ⟨rfl, h1, rfl⟩
  · refine y_throw E F th_69_71 dX1_checkIndex_4 dX1_checkIndex_7 dX1_checkIndex_8 dX1_checkIndex_11 (by decide) (Nat.le_of_ble_eq_true rfl) (by omega) (by omega) ⟨rfl, h1, rfl⟩
theorem c_X1_checkElement_b {q : Prop} : Ct_X1_checkElement Γ 2 1 6 [.int (iI (b2i (dB q)))] (G) (fun v G' => v = none ∧ q ∧ G' = G) (fun E G' => E = eN ∧ ¬ q ∧ G' = G) := by
  refine y_start (lv0 := [some (.int (iI (b2i (dB q))))]) (nm := "checkElement") (own := RX1) (by decide +kernel) rfl rfl (by exact Nat.le_of_ble_eq_true rfl) (by rfl) ?_
  intro Z Q E F
  refine y_iload_n E dX1_checkElement_0 (by rfl) ?_
  refine y_ifd_ne (tgt := 12) E dX1_checkElement_1 (by decide) (fun h1 => ?_) (fun h1 => ?_)
  · refine y_return E F rfl dX1_checkElement_12 (by omega) (by omega) ⟨rfl, h1, rfl⟩
  · refine y_throw E F th_72_74 dX1_checkElement_4 dX1_checkElement_7 dX1_checkElement_8 dX1_checkElement_11 (by decide) (Nat.le_of_ble_eq_true rfl) (by omega) (by omega) ⟨rfl, h1, rfl⟩
theorem c_X1_checkState_b {q : Prop} : Ct_X1_checkState Γ 2 1 6 [.int (iI (b2i (dB q)))] (G) (fun v G' => v = none ∧ q ∧ G' = G) (fun E G' => E = eS ∧ ¬ q ∧ G' = G) := by
  refine y_start (lv0 := [some (.int (iI (b2i (dB q))))]) (nm := "checkState") (own := RX1) (by decide +kernel) rfl rfl (by exact Nat.le_of_ble_eq_true rfl) (by rfl) ?_
  intro Z Q E F
  refine y_iload_n E dX1_checkState_0 (by rfl) ?_
  refine y_ifd_ne (tgt := 12) E dX1_checkState_1 (by decide) (fun h1 => ?_) (fun h1 => ?_)
  · refine y_return E F rfl dX1_checkState_12 (by omega) (by omega) ⟨rfl, h1, rfl⟩
  · refine y_throw E F th_75_77 dX1_checkState_4 dX1_checkState_7 dX1_checkState_8 dX1_checkState_11 (by decide) (Nat.le_of_ble_eq_true rfl) (by omega) (by omega) ⟨rfl, h1, rfl⟩
theorem c_X1_check_t  : Ct_X1_check Γ 2 0 0 [.int (iI 1)] (G) (fun v G' => v = none ∧ G' = G) (noX) := by
  refine y_start (lv0 := [some (.int (iI 1))]) (nm := "check") (own := RX1) (by decide +kernel) rfl rfl (by exact Nat.le_of_ble_eq_true rfl) (by rfl) ?_
  intro Z Q E F
  refine y_iload_n E dX1_check_0 (by rfl) ?_
  refine y_if_ne (tgt := 12) E dX1_check_1 (by decide) (by decide) (fun _ => ?_) (fun h => absurd h (by decide))
  refine y_return E F rfl dX1_check_12 (by omega) (by omega) ⟨rfl, rfl⟩
theorem c_X1_checkIndex_t  : Ct_X1_checkIndex Γ 2 0 0 [.int (iI 1)] (G) (fun v G' => v = none ∧ G' = G) (noX) := by
  refine y_start (lv0 := [some (.int (iI 1))]) (nm := "checkIndex") (own := RX1) (by decide +kernel) rfl rfl (by exact Nat.le_of_ble_eq_true rfl) (by rfl) ?_
  intro Z Q E F
  refine y_iload_n E dX1_checkIndex_0 (by rfl) ?_
  refine y_if_ne (tgt := 12) E dX1_checkIndex_1 (by decide) (by decide) (fun _ => ?_) (fun h => absurd h (by decide))
  refine y_return E F rfl dX1_checkIndex_12 (by omega) (by omega) ⟨rfl, rfl⟩
theorem c_X1_checkElement_t  : Ct_X1_checkElement Γ 2 0 0 [.int (iI 1)] (G) (fun v G' => v = none ∧ G' = G) (noX) := by
  refine y_start (lv0 := [some (.int (iI 1))]) (nm := "checkElement") (own := RX1) (by decide +kernel) rfl rfl (by exact Nat.le_of_ble_eq_true rfl) (by rfl) ?_
  intro Z Q E F
  refine y_iload_n E dX1_checkElement_0 (by rfl) ?_
  refine y_if_ne (tgt := 12) E dX1_checkElement_1 (by decide) (by decide) (fun _ => ?_) (fun h => absurd h (by decide))
  refine y_return E F rfl dX1_checkElement_12 (by omega) (by omega) ⟨rfl, rfl⟩
theorem c_X1_checkState_t  : Ct_X1_checkState Γ 2 0 0 [.int (iI 1)] (G) (fun v G' => v = none ∧ G' = G) (noX) := by
  refine y_start (lv0 := [some (.int (iI 1))]) (nm := "checkState") (own := RX1) (by decide +kernel) rfl rfl (by exact Nat.le_of_ble_eq_true rfl) (by rfl) ?_
  intro Z Q E F
  refine y_iload_n E dX1_checkState_0 (by rfl) ?_
  refine y_if_ne (tgt := 12) E dX1_checkState_1 (by decide) (by decide) (fun _ => ?_) (fun h => absurd h (by decide))
  refine y_return E F rfl dX1_checkState_12 (by omega) (by omega) ⟨rfl, rfl⟩
theorem c_X1_check_f  : Ct_X1_check Γ 2 1 6 [.int (iI 0)] (G) (fun v G' => False) (fun E G' => E = eA ∧ G' = G) := by
  refine y_start (lv0 := [some (.int (iI 0))]) (nm := "check") (own := RX1) (by decide +kernel) rfl rfl (by exact Nat.le_of_ble_eq_true rfl) (by rfl) ?_
  intro Z Q E F
  refine y_iload_n E dX1_check_0 (by rfl) ?_
  refine y_if_ne (tgt := 12) E dX1_check_1 (by decide) (by decide) (fun h => absurd h (by decide)) (fun _ => ?_)
  refine y_throw E F th_66_68 dX1_check_4 dX1_check_7 dX1_check_8 dX1_check_11 (by decide) (Nat.le_of_ble_eq_true rfl) (by omega) (by omega) ⟨rfl, rfl⟩
theorem c_X1_checkIndex_f  : Ct_X1_checkIndex Γ 2 1 6 [.int (iI 0)] (G) (fun v G' => False) (fun E G' => E = eI ∧ G' = G) := by
  refine y_start (lv0 := [some (.int (iI 0))]) (nm := "checkIndex") (own := RX1) (by decide +kernel) rfl rfl (by exact Nat.le_of_ble_eq_true rfl) (by rfl) ?_
  intro Z Q E F
  refine y_iload_n E dX1_checkIndex_0 (by rfl) ?_
  refine y_if_ne (tgt := 12) E dX1_checkIndex_1 (by decide) (by decide) (fun h => absurd h (by decide)) (fun _ => ?_)
  refine y_throw E F th_69_71 dX1_checkIndex_4 dX1_checkIndex_7 dX1_checkIndex_8 dX1_checkIndex_11 (by decide) (Nat.le_of_ble_eq_true rfl) (by omega) (by omega) ⟨rfl, rfl⟩
theorem c_X1_checkElement_f  : Ct_X1_checkElement Γ 2 1 6 [.int (iI 0)] (G) (fun v G' => False) (fun E G' => E = eN ∧ G' = G) := by
  refine y_start (lv0 := [some (.int (iI 0))]) (nm := "checkElement") (own := RX1) (by decide +kernel) rfl rfl (by exact Nat.le_of_ble_eq_true rfl) (by rfl) ?_
  intro Z Q E F
  refine y_iload_n E dX1_checkElement_0 (by rfl) ?_
  refine y_if_ne (tgt := 12) E dX1_checkElement_1 (by decide) (by decide) (fun h => absurd h (by decide)) (fun _ => ?_)
  refine y_throw E F th_72_74 dX1_checkElement_4 dX1_checkElement_7 dX1_checkElement_8 dX1_checkElement_11 (by decide) (Nat.le_of_ble_eq_true rfl) (by omega) (by omega) ⟨rfl, rfl⟩
theorem c_X1_checkState_f  : Ct_X1_checkState Γ 2 1 6 [.int (iI 0)] (G) (fun v G' => False) (fun E G' => E = eS ∧ G' = G) := by
  refine y_start (lv0 := [some (.int (iI 0))]) (nm := "checkState") (own := RX1) (by decide +kernel) rfl rfl (by exact Nat.le_of_ble_eq_true rfl) (by rfl) ?_
  intro Z Q E F
  refine y_iload_n E dX1_checkState_0 (by rfl) ?_
  refine y_if_ne (tgt := 12) E dX1_checkState_1 (by decide) (by decide) (fun h => absurd h (by decide)) (fun _ => ?_)
  refine y_throw E F th_75_77 dX1_checkState_4 dX1_checkState_7 dX1_checkState_8 dX1_checkState_11 (by decide) (Nat.le_of_ble_eq_true rfl) (by omega) (by omega) ⟨rfl, rfl⟩
theorem c_X1_isBetween {a b c : Int} (ha : inR a) (hb : inR b) (hc : inR c) : Ct_X1_isBetween Γ 1 0 0 [.int (iI a), .int (iI b), .int (iI c)] (G) (fun v G' => v = some (.int (iI (b2i (dB (b ≤ a ∧ a ≤ c))))) ∧ G' = G) (noX) := by
  refine y_start (lv0 := [some (.int (iI a)), some (.int (iI b)), some (.int (iI c))]) (nm := "isBetween") (own := RX1) (by decide +kernel) rfl rfl (by exact Nat.le_of_ble_eq_true rfl) (by rfl) ?_
  intro Z Q E F
  refine y_iload_n E dX1_isBetween_0 (by rfl) ?_
  refine y_iload_n E dX1_isBetween_1 (by rfl) ?_
  refine y_icmp_lt (tgt := 14) E dX1_isBetween_2 (by decide) (by omega) (by omega) (fun h2 => ?_) (fun h2 => ?_)
  · refine y_iconst E dX1_isBetween_14 ?_
    refine y_ireturn E F rfl rfl dX1_isBetween_15 (by omega) (by omega) ⟨(rF (by omega)), rfl⟩
  · refine y_iload_n E dX1_isBetween_5 (by rfl) ?_
    refine y_iload_n E dX1_isBetween_6 (by rfl) ?_
    refine y_icmp_gt (tgt := 14) E dX1_isBetween_7 (by decide) (by omega) (by omega) (fun h7 => ?_) (fun h7 => ?_)
    · refine y_iconst E dX1_isBetween_14 ?_
      refine y_ireturn E F rfl rfl dX1_isBetween_15 (by omega) (by omega) ⟨(rF (by omega)), rfl⟩
    · refine y_iconst E dX1_isBetween_10 ?_
      refine y_goto (tgt := 15) E dX1_isBetween_11 (by decide) ?_
      refine y_ireturn E F rfl rfl dX1_isBetween_15 (by omega) (by omega) ⟨(rT (by omega)), rfl⟩
theorem c_X1_isPlace {a : Int} (ha : inR a) : Ct_X1_isPlace Γ 2 0 0 [.int (iI a)] (G) (fun v G' => v = some (.int (iI (b2i (dB (0 ≤ a ∧ a ≤ 60))))) ∧ G' = G) (noX) := by
  refine y_start (lv0 := [some (.int (iI a))]) (nm := "isPlace") (own := RX1) (by decide +kernel) rfl rfl (by exact Nat.le_of_ble_eq_true rfl) (by rfl) ?_
  intro Z Q E F
  refine y_iload_n E dX1_isPlace_0 (by rfl) ?_
  refine y_iconst E dX1_isPlace_1 ?_
  refine y_bipush E dX1_isPlace_2 (by decide) ?_
  refine y_callS E dX1_isPlace_4 lk_X1_85 (c_X1_isBetween ?_ ?_ ?_) (by rfl) (by decide) (by omega) (by omega) rfl (Nat.le_of_ble_eq_true rfl) ?_ (fun _ _ _ h => h.elim)
  · first | omega | (simp (decide := true) only [upN_s, upN_n, upN_upN, upN_id, remT_5, remT_8] <;> omega)
  · first | omega | (simp (decide := true) only [upN_s, upN_n, upN_upN, upN_id, remT_5, remT_8] <;> omega)
  · first | omega | (simp (decide := true) only [upN_s, upN_n, upN_upN, upN_id, remT_5, remT_8] <;> omega)
  rintro _ _ ⟨rfl, hG9⟩
  rw [hG9]
  clear hG9
  refine y_ireturn E F rfl (nar_b _) dX1_isPlace_7 (by omega) (by omega) ⟨(rI (by rfl)), rfl⟩
theorem c_X1_isTower (hx : G x = some (t0, coE C hc fp)) (hI : isST Γ G st (kSt C) S w) (hS : SH w) {t : Int} (ht : inR t) : Ct_X1_isTower Γ 2 0 0 [.ref x, .int (iI t)] (G) (fun v G' => v = some (.int (iI (b2i (dB (0 ≤ t ∧ t ≤ w 10 - 1))))) ∧ G' = G) (noX) := by
  refine y_start (lv0 := [some (.ref x), some (.int (iI t))]) (nm := "isTower") (own := RX1) (by decide +kernel) rfl rfl (by exact Nat.le_of_ble_eq_true rfl) (by rfl) ?_
  intro Z Q E F
  have hst := hI.1
  have hn := hS.nt
  have hal := hI.2.1
  obtain ⟨fal, hac⟩ := hal.c
  have hl : ((twL S w).length : Int) = w 10 := by rw [twL_len]; omega
  refine y_iload_n E dX1_isTower_0 (by rfl) ?_
  refine y_iconst E dX1_isTower_1 ?_
  first | refine y_ald_n E dX1_isTower_2 (by rfl) ?_ | refine y_aload_n E dX1_isTower_2 (by rfl) ?_
  refine y_get E dX1_isTower_3 fl_X1_10_X1 (hx) (by rfl) ?_
  refine y_getN E dX1_isTower_6 fl_X1_78_X2 (hst) (by rfl) ?_
  refine y_callV E dX1_isTower_9 lk_X1_81 (c_AL_size hal) (by rfl) (hac) rfl (by decide) (by omega) (by omega) rfl (Nat.le_of_ble_eq_true rfl) ?_ (fun _ _ _ h => h.elim)
  rintro _ _ ⟨rfl, hG9⟩
  rw [hG9]
  clear hG9
  rw [hl]
  refine y_iconst E dX1_isTower_12 ?_
  refine y_isub E dX1_isTower_13 ?_
  refine y_callS E dX1_isTower_14 lk_X1_85 (c_X1_isBetween ?_ ?_ ?_) (by rfl) (by decide) (by omega) (by omega) rfl (Nat.le_of_ble_eq_true rfl) ?_ (fun _ _ _ h => h.elim)
  · first | omega | (simp (decide := true) only [upN_s, upN_n, upN_upN, upN_id, remT_5, remT_8] <;> omega)
  · first | omega | (simp (decide := true) only [upN_s, upN_n, upN_upN, upN_id, remT_5, remT_8] <;> omega)
  · first | omega | (simp (decide := true) only [upN_s, upN_n, upN_upN, upN_id, remT_5, remT_8] <;> omega)
  rintro _ _ ⟨rfl, hG9⟩
  rw [hG9]
  clear hG9
  refine y_ireturn E F rfl (nar_b _) dX1_isTower_17 (by omega) (by omega) ⟨rfl, rfl⟩
theorem c_X1_at (hx : G x = some (t0, coE C hc fp)) (hI : isST Γ G st (kSt C) S w) (hS : SH w) {t : Nat} (ht : (t : Int) < w 10) : Ct_X1_at Γ 4 0 0 [.ref x, .int (iI (t : Int))] (G) (fun v G' => v = some (.ref (sTa S t)) ∧ G' = G) (noX) := by
  refine y_start (lv0 := [some (.ref x), some (.int (iI (t : Int)))]) (nm := "at") (own := RX1) (by decide +kernel) rfl rfl (by exact Nat.le_of_ble_eq_true rfl) (by rfl) ?_
  intro Z Q E F
  have hst := hI.1
  have hn := hS.nt
  have hal := hI.2.1
  have htw := isST_t hI ht
  unfold twX twE at htw
  obtain ⟨fal, hac⟩ := hal.c
  first | refine y_ald_n E dX1_at_0 (by rfl) ?_ | refine y_aload_n E dX1_at_0 (by rfl) ?_
  refine y_get E dX1_at_1 fl_X1_10_X1 (hx) (by rfl) ?_
  refine y_getN E dX1_at_4 fl_X1_78_X2 (hst) (by rfl) ?_
  refine y_iload_n E dX1_at_7 (by rfl) ?_
  refine y_callV E dX1_at_8 lk_X1_112 (c_AL_get hal (twL_at ht)) (by rfl) (hac) rfl (by decide) (by omega) (by omega) rfl (Nat.le_of_ble_eq_true rfl) ?_ (fun _ _ _ h => h.elim)
  rintro _ _ ⟨rfl, hG9⟩
  rw [hG9]
  clear hG9
  refine y_ccast E dX1_at_11 q1200 (htw) rfl (Or.inl rfl) ?_
  refine y_areturn (r := some _) E F rfl (by first | exact Or.inl ⟨_, rfl⟩ | exact Or.inr ⟨_, rfl⟩) dX1_at_14 (by omega) (by omega) ⟨rfl, rfl⟩
end X1a
