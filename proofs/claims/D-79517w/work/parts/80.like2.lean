/-! ===== Tower.isLike ===== -/
section Like2
variable {Γ : yG}
set_option maxHeartbeats 4000000
theorem lk_t {p q : Bool} (h : b2i p = b2i q) : (p == q) = true := by rw [b2i_inj.mp h]; simp
theorem lk_f {p q : Bool} (h : b2i p ≠ b2i q) : (p == q) = false := beq_eq_false_iff_ne.mpr (fun e => h (by rw [e]))
theorem tB {p : Bool} (h : p = true) : Value.int (iI 1) = .int (iI (b2i p)) := by rw [h]; rfl
theorem fB {p : Bool} (h : p = false) : Value.int (iI 0) = .int (iI (b2i p)) := by rw [h]; rfl
theorem c_X6_isLike2 {G : yH} {a b sd sd2 sg og mn : Nat} {t t2 : yT} {k p sk lit br k2 p2 sk2 lit2 br2 : Int} {ln ln2 : Option Nat} (h : G a = some (t, twE k p sd sk sg mn ln lit br)) (g : G b = some (t2, twE k2 p2 sd2 sk2 og mn ln2 lit2 br2)) (hs : sg < 256) (ho : og < 256) (hm : 1 ≤ mn ∧ mn ≤ 8) : Ct_X6_isLike Γ 2 0 0 [.ref a, .ref b] (G) (fun v G' => v = some (.int (iI (b2i (likeS sg og mn)))) ∧ G' = G) (noX) := by
  refine y_start (lv0 := [some (.ref a), some (.ref b), none, none, none, none]) (nm := "isLike") (own := RX6) (by decide +kernel) rfl rfl (by exact Nat.le_of_ble_eq_true rfl) (by rfl) ?_
  intro Z Q E F
  have h' := h
  have g' := g
  unfold twE at h g
  have inner : ∀ (fr : Nat), fr < mn → (∀ l5, Y Γ Z 0 0 Q G 105 [some (.ref a), some (.ref b), some (.int (iI fr)), some (.int (iI (b2i (allB (likeF sg og mn fr) mn)))), some (.int (iI (b2i (allB (likeR sg og mn fr) mn)))), l5] []) → ∀ i : Nat, i ≤ mn → Y Γ Z 0 0 Q G 31 [some (.ref a), some (.ref b), some (.int (iI fr)), some (.int (iI (b2i (allB (likeF sg og mn fr) i)))), some (.int (iI (b2i (allB (likeR sg og mn fr) i)))), some (.int (iI i))] [] := by
    intro fr hfr K
    refine loopDownN mn ?_
    intro i ih hi
    refine y_iload E dX6_isLike_31 (by rfl) ?_
    first | refine y_ald_n E dX6_isLike_33 (by rfl) ?_ | refine y_aload_n E dX6_isLike_33 (by rfl) ?_
    refine y_get E dX6_isLike_34 fl_X6_15_X6 (h) (by rfl) ?_
    refine y_icmp_ge (tgt := 105) E dX6_isLike_37 (by decide) (by omega) (by omega) (fun h37 => ?_) (fun h37 => ?_)
    · rw [show i = mn by omega]
      exact K _
    · refine y_iload_n E dX6_isLike_40 (by rfl) ?_
      first | refine y_ald_n E dX6_isLike_41 (by rfl) ?_ | refine y_aload_n E dX6_isLike_41 (by rfl) ?_
      refine y_iload_n E dX6_isLike_42 (by rfl) ?_
      refine y_iload E dX6_isLike_43 (by rfl) ?_
      refine y_iadd E dX6_isLike_45 ?_
      refine y_top (v' := .int (iI ((fr + i : Nat) : Int))) rfl ?_
      refine y_callV E dX6_isLike_46 lk_X6_41 (c_X6_isFlash (i := fr + i) h' hs hm (by omega)) (by rfl) (h) rfl (by decide) (by omega) (by omega) rfl (Nat.le_of_ble_eq_true rfl) ?_ (fun _ _ _ h => h.elim)
      rintro _ _ ⟨rfl, rfl⟩
      first | refine y_ald_n E dX6_isLike_49 (by rfl) ?_ | refine y_aload_n E dX6_isLike_49 (by rfl) ?_
      refine y_iload E dX6_isLike_50 (by rfl) ?_
      refine y_callV E dX6_isLike_52 lk_X6_41 (c_X6_isFlash (i := i) g' ho hm (by omega)) (by rfl) (g) rfl (by decide) (by omega) (by omega) rfl (Nat.le_of_ble_eq_true rfl) ?_ (fun _ _ _ h => h.elim)
      rintro _ _ ⟨rfl, rfl⟩
      refine y_icmp_ne (tgt := 62) E dX6_isLike_55 (by decide) (b2i_in _) (b2i_in _) (fun h55 => ?_) (fun h55 => ?_)
      · refine y_iconst E dX6_isLike_62 ?_
        refine y_top (v' := .int (iI (b2i (likeF sg og mn fr i)))) (by first | exact tB (lk_t h55) | exact fB (lk_f h55)) ?_
        refine y_iand E dX6_isLike_63 (and_b2i _ _) ?_
        refine y_istore_n (j := 3) E dX6_isLike_64 rfl (Nat.le_of_ble_eq_true rfl) ?_
        refine y_iload E dX6_isLike_65 (by rfl) ?_
        first | refine y_ald_n E dX6_isLike_67 (by rfl) ?_ | refine y_aload_n E dX6_isLike_67 (by rfl) ?_
        refine y_iload_n E dX6_isLike_68 (by rfl) ?_
        first | refine y_ald_n E dX6_isLike_69 (by rfl) ?_ | refine y_aload_n E dX6_isLike_69 (by rfl) ?_
        refine y_get E dX6_isLike_70 fl_X6_15_X6 (h) (by rfl) ?_
        refine y_iadd E dX6_isLike_73 ?_
        refine y_iconst E dX6_isLike_74 ?_
        refine y_isub E dX6_isLike_75 ?_
        refine y_iload E dX6_isLike_76 (by rfl) ?_
        refine y_isub E dX6_isLike_78 ?_
        refine y_top (v' := .int (iI ((fr + mn - 1 - i : Nat) : Int))) (by congr 2; omega) ?_
        refine y_callV E dX6_isLike_79 lk_X6_41 (c_X6_isFlash (i := fr + mn - 1 - i) h' hs hm (by omega)) (by rfl) (h) rfl (by decide) (by omega) (by omega) rfl (Nat.le_of_ble_eq_true rfl) ?_ (fun _ _ _ h => h.elim)
        rintro _ _ ⟨rfl, rfl⟩
        first | refine y_ald_n E dX6_isLike_82 (by rfl) ?_ | refine y_aload_n E dX6_isLike_82 (by rfl) ?_
        refine y_iload E dX6_isLike_83 (by rfl) ?_
        refine y_callV E dX6_isLike_85 lk_X6_41 (c_X6_isFlash (i := i) g' ho hm (by omega)) (by rfl) (g) rfl (by decide) (by omega) (by omega) rfl (Nat.le_of_ble_eq_true rfl) ?_ (fun _ _ _ h => h.elim)
        rintro _ _ ⟨rfl, rfl⟩
        refine y_icmp_ne (tgt := 95) E dX6_isLike_88 (by decide) (b2i_in _) (b2i_in _) (fun h88 => ?_) (fun h88 => ?_)
        · refine y_iconst E dX6_isLike_95 ?_
          refine y_top (v' := .int (iI (b2i (likeR sg og mn fr i)))) (by first | exact tB (lk_t h88) | exact fB (lk_f h88)) ?_
          refine y_iand E dX6_isLike_96 (and_b2i _ _) ?_
          refine y_istore E dX6_isLike_97 (Nat.le_of_ble_eq_true rfl) ?_
          refine y_iinc E dX6_isLike_99 (by rfl) ?_
          refine y_goto (tgt := 31) E dX6_isLike_102 (by decide) ?_
          exact ih (by omega) (by omega)
        · refine y_iconst E dX6_isLike_91 ?_
          refine y_goto (tgt := 96) E dX6_isLike_92 (by decide) ?_
          refine y_top (v' := .int (iI (b2i (likeR sg og mn fr i)))) (by first | exact tB (lk_t h88) | exact fB (lk_f h88)) ?_
          refine y_iand E dX6_isLike_96 (and_b2i _ _) ?_
          refine y_istore E dX6_isLike_97 (Nat.le_of_ble_eq_true rfl) ?_
          refine y_iinc E dX6_isLike_99 (by rfl) ?_
          refine y_goto (tgt := 31) E dX6_isLike_102 (by decide) ?_
          exact ih (by omega) (by omega)
      · refine y_iconst E dX6_isLike_58 ?_
        refine y_goto (tgt := 63) E dX6_isLike_59 (by decide) ?_
        refine y_top (v' := .int (iI (b2i (likeF sg og mn fr i)))) (by first | exact tB (lk_t h55) | exact fB (lk_f h55)) ?_
        refine y_iand E dX6_isLike_63 (and_b2i _ _) ?_
        refine y_istore_n (j := 3) E dX6_isLike_64 rfl (Nat.le_of_ble_eq_true rfl) ?_
        refine y_iload E dX6_isLike_65 (by rfl) ?_
        first | refine y_ald_n E dX6_isLike_67 (by rfl) ?_ | refine y_aload_n E dX6_isLike_67 (by rfl) ?_
        refine y_iload_n E dX6_isLike_68 (by rfl) ?_
        first | refine y_ald_n E dX6_isLike_69 (by rfl) ?_ | refine y_aload_n E dX6_isLike_69 (by rfl) ?_
        refine y_get E dX6_isLike_70 fl_X6_15_X6 (h) (by rfl) ?_
        refine y_iadd E dX6_isLike_73 ?_
        refine y_iconst E dX6_isLike_74 ?_
        refine y_isub E dX6_isLike_75 ?_
        refine y_iload E dX6_isLike_76 (by rfl) ?_
        refine y_isub E dX6_isLike_78 ?_
        refine y_top (v' := .int (iI ((fr + mn - 1 - i : Nat) : Int))) (by congr 2; omega) ?_
        refine y_callV E dX6_isLike_79 lk_X6_41 (c_X6_isFlash (i := fr + mn - 1 - i) h' hs hm (by omega)) (by rfl) (h) rfl (by decide) (by omega) (by omega) rfl (Nat.le_of_ble_eq_true rfl) ?_ (fun _ _ _ h => h.elim)
        rintro _ _ ⟨rfl, rfl⟩
        first | refine y_ald_n E dX6_isLike_82 (by rfl) ?_ | refine y_aload_n E dX6_isLike_82 (by rfl) ?_
        refine y_iload E dX6_isLike_83 (by rfl) ?_
        refine y_callV E dX6_isLike_85 lk_X6_41 (c_X6_isFlash (i := i) g' ho hm (by omega)) (by rfl) (g) rfl (by decide) (by omega) (by omega) rfl (Nat.le_of_ble_eq_true rfl) ?_ (fun _ _ _ h => h.elim)
        rintro _ _ ⟨rfl, rfl⟩
        refine y_icmp_ne (tgt := 95) E dX6_isLike_88 (by decide) (b2i_in _) (b2i_in _) (fun h88 => ?_) (fun h88 => ?_)
        · refine y_iconst E dX6_isLike_95 ?_
          refine y_top (v' := .int (iI (b2i (likeR sg og mn fr i)))) (by first | exact tB (lk_t h88) | exact fB (lk_f h88)) ?_
          refine y_iand E dX6_isLike_96 (and_b2i _ _) ?_
          refine y_istore E dX6_isLike_97 (Nat.le_of_ble_eq_true rfl) ?_
          refine y_iinc E dX6_isLike_99 (by rfl) ?_
          refine y_goto (tgt := 31) E dX6_isLike_102 (by decide) ?_
          exact ih (by omega) (by omega)
        · refine y_iconst E dX6_isLike_91 ?_
          refine y_goto (tgt := 96) E dX6_isLike_92 (by decide) ?_
          refine y_top (v' := .int (iI (b2i (likeR sg og mn fr i)))) (by first | exact tB (lk_t h88) | exact fB (lk_f h88)) ?_
          refine y_iand E dX6_isLike_96 (and_b2i _ _) ?_
          refine y_istore E dX6_isLike_97 (Nat.le_of_ble_eq_true rfl) ?_
          refine y_iinc E dX6_isLike_99 (by rfl) ?_
          refine y_goto (tgt := 31) E dX6_isLike_102 (by decide) ?_
          exact ih (by omega) (by omega)
  have outer : ∀ (fr : Nat), ∀ l3 l4 l5 : Option Value, fr ≤ mn → (∀ j, j < fr → likeAt sg og mn j = false) → Y Γ Z 0 0 Q G 15 [some (.ref a), some (.ref b), some (.int (iI fr)), l3, l4, l5] [] := by
    refine loopDownN mn ?_
    intro fr ih l3 l4 l5 hf hj
    have K : fr < mn → ∀ l5, Y Γ Z 0 0 Q G 105 [some (.ref a), some (.ref b), some (.int (iI fr)), some (.int (iI (b2i (allB (likeF sg og mn fr) mn)))), some (.int (iI (b2i (allB (likeR sg og mn fr) mn)))), l5] [] := by
      intro hfr l5
      refine y_iload_n E dX6_isLike_105 (by rfl) ?_
      refine y_ifb_ne (tgt := 114) E dX6_isLike_106 (by decide) (fun h106 => ?_) (fun h106 => ?_)
      · refine y_iconst E dX6_isLike_114 ?_
        refine y_ireturn E F rfl rfl dX6_isLike_115 (by omega) (by omega) ⟨by rw [show likeS sg og mn = true from by unfold likeS; rw [anyB_iff]; exact ⟨fr, hfr, by unfold likeAt; first | (rw [h106]; rfl) | (rw [h111]; exact Bool.or_true _)⟩]; rfl, rfl⟩
      · refine y_iload E dX6_isLike_109 (by rfl) ?_
        refine y_ifb_eq (tgt := 116) E dX6_isLike_111 (by decide) (fun h111 => ?_) (fun h111 => ?_)
        · refine y_iinc E dX6_isLike_116 (by rfl) ?_
          refine y_goto (tgt := 15) E dX6_isLike_119 (by decide) ?_
          refine ih hfr _ _ _ (by omega) (fun j j1 => ?_)
          by_cases e : j = fr
          · subst e
            unfold likeAt
            rw [h106, h111]
            rfl
          · exact hj j (by omega)
        · refine y_iconst E dX6_isLike_114 ?_
          refine y_ireturn E F rfl rfl dX6_isLike_115 (by omega) (by omega) ⟨by rw [show likeS sg og mn = true from by unfold likeS; rw [anyB_iff]; exact ⟨fr, hfr, by unfold likeAt; first | (rw [h106]; rfl) | (rw [h111]; exact Bool.or_true _)⟩]; rfl, rfl⟩
    refine y_iload_n E dX6_isLike_15 (by rfl) ?_
    first | refine y_ald_n E dX6_isLike_16 (by rfl) ?_ | refine y_aload_n E dX6_isLike_16 (by rfl) ?_
    refine y_get E dX6_isLike_17 fl_X6_15_X6 (h) (by rfl) ?_
    refine y_icmp_ge (tgt := 122) E dX6_isLike_20 (by decide) (by omega) (by omega) (fun h20 => ?_) (fun h20 => ?_)
    · refine y_iconst E dX6_isLike_122 ?_
      refine y_ireturn E F rfl rfl dX6_isLike_123 (by omega) (by omega) ⟨by rw [show likeS sg og mn = false from by rw [← Bool.not_eq_true]; intro q; unfold likeS at q; rw [anyB_iff] at q; obtain ⟨j, j1, j2⟩ := q; rw [hj j (by omega)] at j2; cases j2]; rfl, rfl⟩
    · refine y_iconst E dX6_isLike_23 ?_
      refine y_istore_n (j := 3) E dX6_isLike_24 rfl (Nat.le_of_ble_eq_true rfl) ?_
      refine y_iconst E dX6_isLike_25 ?_
      refine y_istore E dX6_isLike_26 (Nat.le_of_ble_eq_true rfl) ?_
      refine y_iconst E dX6_isLike_28 ?_
      refine y_istore E dX6_isLike_29 (Nat.le_of_ble_eq_true rfl) ?_
      exact inner fr (by omega) (K (by omega)) 0 (by omega)
  first | refine y_ald_n E dX6_isLike_0 (by rfl) ?_ | refine y_aload_n E dX6_isLike_0 (by rfl) ?_
  refine y_get E dX6_isLike_1 fl_X6_15_X6 (h) (by rfl) ?_
  first | refine y_ald_n E dX6_isLike_4 (by rfl) ?_ | refine y_aload_n E dX6_isLike_4 (by rfl) ?_
  refine y_get E dX6_isLike_5 fl_X6_15_X6 (g) (by rfl) ?_
  refine y_icmp_eq (tgt := 13) E dX6_isLike_8 (by decide) (by omega) (by omega) (fun h8 => ?_) (fun h8 => ?_)
  · refine y_iconst E dX6_isLike_13 ?_
    refine y_istore_n (j := 2) E dX6_isLike_14 rfl (Nat.le_of_ble_eq_true rfl) ?_
    exact outer 0 _ _ _ (by omega) (fun j j1 => by omega)
  · refine y_iconst E dX6_isLike_11 ?_
    refine y_ireturn E F rfl rfl dX6_isLike_12 (by omega) (by omega) (absurd rfl h8)
end Like2
