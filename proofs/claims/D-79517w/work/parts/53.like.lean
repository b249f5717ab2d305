/-! ===== Tower.isLike ===== -/
def allB (f : Nat → Bool) : Nat → Bool
  | 0 => true
  | n + 1 => allB f n && f n
def anyB (f : Nat → Bool) : Nat → Bool
  | 0 => false
  | n + 1 => anyB f n || f n
theorem allB_iff (f : Nat → Bool) : ∀ n, allB f n = true ↔ ∀ k, k < n → f k = true
  | 0 => by simp [allB]
  | n + 1 => by
    have ih := allB_iff f n
    simp only [allB, Bool.and_eq_true]
    rw [ih]
    constructor
    · rintro ⟨h1, h2⟩ k hk
      by_cases e : k = n
      · subst e
        exact h2
      · exact h1 k (by omega)
    · intro h
      exact ⟨fun k hk => h k (by omega), h n (by omega)⟩
theorem anyB_iff (f : Nat → Bool) : ∀ n, anyB f n = true ↔ ∃ k, k < n ∧ f k = true
  | 0 => by simp [anyB]
  | n + 1 => by
    have ih := anyB_iff f n
    simp only [anyB, Bool.or_eq_true]
    rw [ih]
    constructor
    · rintro (⟨k, h1, h2⟩ | h)
      · exact ⟨k, by omega, h2⟩
      · exact ⟨n, by omega, h⟩
    · rintro ⟨k, h1, h2⟩
      by_cases e : k = n
      · subst e
        exact Or.inr h2
      · exact Or.inl ⟨k, by omega, h2⟩
def likeF (sg og mn fr k : Nat) : Bool := flS sg mn (fr + k) == flS og mn k
def likeR (sg og mn fr k : Nat) : Bool := flS sg mn (fr + mn - 1 - k) == flS og mn k
def likeAt (sg og mn fr : Nat) : Bool := allB (likeF sg og mn fr) mn || allB (likeR sg og mn fr) mn
def likeS (sg og mn : Nat) : Bool := anyB (likeAt sg og mn) mn
theorem and_b2i (p q : Bool) : iI (b2i p) &&& iI (b2i q) = iI (b2i (p && q)) := by cases p <;> cases q <;> decide
theorem b2i_inj {p q : Bool} : b2i p = b2i q ↔ p = q := by cases p <;> cases q <;> decide
section Like
variable {Γ : yG}
set_option maxHeartbeats 4000000
theorem c_X6_isLike_ne {G : yH} {a b sd sd2 : Nat} {t t2 : yT} {k p sk sg mn lit br k2 p2 sk2 og mn2 lit2 br2 : Int} {ln ln2 : Option Nat} (h : G a = some (t, twE k p sd sk sg mn ln lit br)) (g : G b = some (t2, twE k2 p2 sd2 sk2 og mn2 ln2 lit2 br2)) (hr : inR mn) (hr2 : inR mn2) (hne : mn ≠ mn2) : Ct_X6_isLike Γ 2 0 0 [.ref a, .ref b] G (fun v G' => v = some (.int (iI (b2i false))) ∧ G' = G) noX := by
  unfold twE at h g
  refine y_start (lv0 := [some (.ref a), some (.ref b), none, none, none, none]) (nm := "isLike") (own := RX6) (by decide +kernel) rfl rfl (by first | exact Nat.le_of_ble_eq_true rfl | (simp only [yArgs, va_cat_rf]; simp [Value.category])) (by first | rfl | (simp only [yArgs, va_cat_rf]; simp [Value.category])) ?_
  intro Z Q E F
  first | refine y_ald_n E dX6_isLike_0 (by rfl) ?_ | refine y_aload_n E dX6_isLike_0 (by rfl) ?_
  refine y_get E dX6_isLike_1 fl_X6_15_X6 (h) (by rfl) ?_
  first | refine y_ald_n E dX6_isLike_4 (by rfl) ?_ | refine y_aload_n E dX6_isLike_4 (by rfl) ?_
  refine y_get E dX6_isLike_5 fl_X6_15_X6 (g) (by rfl) ?_
  refine y_icmp_eq (tgt := 13) E dX6_isLike_8 (by decide) (by omega) (by omega) (fun he => ?_) (fun he => ?_)
  · exact absurd he hne
  · refine y_iconst E dX6_isLike_11 ?_
    refine y_top (v' := .int (iI (b2i false))) rfl ?_
    refine y_ireturn E F rfl (nar_b _) dX6_isLike_12 (by omega) (by omega) ⟨rfl, rfl⟩
theorem c_X6_isLike {G : yH} {a b sd sd2 sg og mn : Nat} {t t2 : yT} {k p sk lit br k2 p2 sk2 lit2 br2 : Int} {ln ln2 : Option Nat} (h : G a = some (t, twE k p sd sk sg mn ln lit br)) (g : G b = some (t2, twE k2 p2 sd2 sk2 og mn ln2 lit2 br2)) (hs : sg < 256) (ho : og < 256) (hm : 1 ≤ mn ∧ mn ≤ 8) : Ct_X6_isLike Γ 2 0 0 [.ref a, .ref b] G (fun v G' => v = some (.int (iI (b2i (likeS sg og mn)))) ∧ G' = G) noX := by
  have h' := h
  have g' := g
  unfold twE at h g
  refine y_start (lv0 := [some (.ref a), some (.ref b), none, none, none, none]) (nm := "isLike") (own := RX6) (by decide +kernel) rfl rfl (by first | exact Nat.le_of_ble_eq_true rfl | (simp only [yArgs, va_cat_rf]; simp [Value.category])) (by first | rfl | (simp only [yArgs, va_cat_rf]; simp [Value.category])) ?_
  intro Z Q E F
  first | refine y_ald_n E dX6_isLike_0 (by rfl) ?_ | refine y_aload_n E dX6_isLike_0 (by rfl) ?_
  refine y_get E dX6_isLike_1 fl_X6_15_X6 (h) (by rfl) ?_
  first | refine y_ald_n E dX6_isLike_4 (by rfl) ?_ | refine y_aload_n E dX6_isLike_4 (by rfl) ?_
  refine y_get E dX6_isLike_5 fl_X6_15_X6 (g) (by rfl) ?_
  refine y_icmp_eq (tgt := 13) E dX6_isLike_8 (by decide) (by omega) (by omega) (fun he => ?_) (fun he => ?_)
  · refine y_iconst E dX6_isLike_13 ?_
    refine y_istore_n (j := 2) E dX6_isLike_14 rfl (Nat.le_of_ble_eq_true rfl) ?_
    have inner : ∀ (fr : Nat), fr < mn → ∀ (d i : Nat), i + d = mn → (allB (likeF sg og mn fr) mn = allB (likeF sg og mn fr) mn) → (∀ l5, Y Γ Z 0 0 Q G 105 [some (.ref a), some (.ref b), some (.int (iI fr)), some (.int (iI (b2i (allB (likeF sg og mn fr) mn)))), some (.int (iI (b2i (allB (likeR sg og mn fr) mn)))), l5] []) → Y Γ Z 0 0 Q G 31 [some (.ref a), some (.ref b), some (.int (iI fr)), some (.int (iI (b2i (allB (likeF sg og mn fr) i)))), some (.int (iI (b2i (allB (likeR sg og mn fr) i)))), some (.int (iI i))] [] := by
      intro fr hfr d
      induction d with
      | zero =>
        intro i hi _ K
        have hi : i = mn := by omega
        subst hi
        refine y_iload E dX6_isLike_31 (by rfl) ?_
        first | refine y_ald_n E dX6_isLike_33 (by rfl) ?_ | refine y_aload_n E dX6_isLike_33 (by rfl) ?_
        refine y_get E dX6_isLike_34 fl_X6_15_X6 (h) (by rfl) ?_
        refine y_icmp_ge (tgt := 105) E dX6_isLike_37 (by decide) (by omega) (by omega) (fun hb => ?_) (fun hb => ?_)
        · exact K _
        · exfalso
          omega
      | succ d ih =>
        intro i hi _ K
        refine y_iload E dX6_isLike_31 (by rfl) ?_
        first | refine y_ald_n E dX6_isLike_33 (by rfl) ?_ | refine y_aload_n E dX6_isLike_33 (by rfl) ?_
        refine y_get E dX6_isLike_34 fl_X6_15_X6 (h) (by rfl) ?_
        refine y_icmp_ge (tgt := 105) E dX6_isLike_37 (by decide) (by omega) (by omega) (fun hb => ?_) (fun hb => ?_)
        · exfalso
          omega
        · refine y_iload_n E dX6_isLike_40 (by rfl) ?_
          first | refine y_ald_n E dX6_isLike_41 (by rfl) ?_ | refine y_aload_n E dX6_isLike_41 (by rfl) ?_
          refine y_iload_n E dX6_isLike_42 (by rfl) ?_
          refine y_iload E dX6_isLike_43 (by rfl) ?_
          refine y_iadd E dX6_isLike_45 ?_
          refine y_top (v' := .int (iI ((fr + i : Nat) : Int))) rfl ?_
          refine y_callV E dX6_isLike_46 lk_X6_41 (c_X6_isFlash (i := fr + i) h' hs hm (by omega)) (by rfl) (h) rfl (by decide) (by omega) (by omega) rfl (Nat.le_of_ble_eq_true rfl) ?_ (fun _ _ _ h => h.elim)
          rintro v G1 ⟨rfl, rfl⟩
          first | refine y_ald_n E dX6_isLike_49 (by rfl) ?_ | refine y_aload_n E dX6_isLike_49 (by rfl) ?_
          refine y_iload E dX6_isLike_50 (by rfl) ?_
          refine y_callV E dX6_isLike_52 lk_X6_41 (c_X6_isFlash (i := i) g' ho hm (by omega)) (by rfl) (g) rfl (by decide) (by omega) (by omega) rfl (Nat.le_of_ble_eq_true rfl) ?_ (fun _ _ _ h => h.elim)
          rintro v G1 ⟨rfl, rfl⟩
          sorry
    sorry
  · exact absurd rfl he
end Like
