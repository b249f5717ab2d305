/-! ===== State.nextOf ===== -/
section Nx
variable {Γ : yG} {G : yH} {st a : Nat} {S : SA} {w : Int → Int}
set_option maxHeartbeats 4000000
theorem c_X2_nextOf (hB : gB Γ G) (hI : isST Γ G st a S w) (hS : SH w) (hL : LSW w) {o : Int} (ho : 0 ≤ o ∧ o < w 10) {f : Int → Int} {aa : Nat} {tt : yT} (hf : G aa = some (tt, aI 0 8 f)) (hfe : ∀ j, 0 ≤ j → j < 8 → f j = dS w o j) {t : Nat} (ht : (t : Int) < w 10) (hd : 0 < dS w o t) : Ct_X2_nextOf Γ 5 1 4 [.ref a, .ref (sTa S t), .ref aa] (G) (fun v G' => v = some (.ref (sTa S (nxS w o t).toNat)) ∧ G' = G) (noX) := by
  refine y_start (lv0 := [some (.ref a), some (.ref (sTa S t)), some (.ref aa), none, none]) (nm := "nextOf") (own := RX2) (by decide +kernel) rfl rfl (by exact Nat.le_of_ble_eq_true rfl) (by rfl) ?_
  intro Z Q E F
  have hst := hI.1
  have hn := hS.nt
  have hal := hI.2.1
  obtain ⟨fal, hac⟩ := hal.c
  have hlen := twL_len S w
  have htw := isST_t hI ht
  unfold twX twE at htw
  have hSt := hS.t (t := (t : Int)) (by omega) (by omega)
  have hdt := dS_in (t := (t : Int)) hn ho
  have hft := hfe t (by omega) (by omega)
  have hnx := nxS_ok hn.1 hd
  have loop : ∀ it, G it = none → ∀ i : Nat, ∀ (G1 : yH) (l4 : Option Value), gExt G G1 → isIT Γ G1 it (sTl S) (st, 1) (twL S w) i → (i : Int) ≤ w 10 → (∀ j : Int, 0 ≤ j → j < i → ¬ (fun k => csP w t k ∧ dS w o k = dS w o t - 1) j) → Y Γ Z 1 4 Q G1 8 [some (.ref a), some (.ref (sTa S t)), some (.ref aa), some (.ref it), l4] [] := by
    intro it h0
    refine loopDownN (w 10).toNat ?_
    intro i ih G1 l4 hE hit hi hj
    obtain ⟨fs, hitc⟩ := hit.c
    have hSi := fun h : (i : Int) < 8 => hS.t (t := (i : Int)) (by omega) h
    have hdi := dS_in (t := (i : Int)) hn ho
    first | refine y_ald_n E dX2_nextOf_8 (by rfl) ?_ | refine y_aload_n E dX2_nextOf_8 (by rfl) ?_
    refine y_callF E dX2_nextOf_9 lk_X2_37_J24 (c_it_has hit (by omega)) (by rfl) (hitc) rfl (by decide) (by omega) (by omega) rfl (Nat.le_of_ble_eq_true rfl) ?_ (fun _ _ _ h => h.elim)
    rintro _ _ ⟨rfl, hG9⟩
    rw [hG9]
    clear hG9
    refine y_ifd_eq (tgt := 62) E dX2_nextOf_14 (by decide) (fun h14 => ?_) (fun h14 => ?_)
    · exact absurd hnx.2 (hj _ hnx.1.1 (by omega))
    · first | refine y_ald_n E dX2_nextOf_17 (by rfl) ?_ | refine y_aload_n E dX2_nextOf_17 (by rfl) ?_
      refine y_callF E dX2_nextOf_18 lk_X2_43_J24 (c_it_next hit (twL_at (by omega))) (by rfl) (hitc) rfl (by decide) (by omega) (by omega) rfl (Nat.le_of_ble_eq_true rfl) ?_ (fun _ _ _ h => h.elim)
      rintro _ _ ⟨rfl, hit2, vv, hG9⟩
      rw [hG9] at hit2 ⊢
      clear hG9
      have hE2 := gExt_w hE (some yT0, vv) h0
      have hB2 := hB.e hE2
      have hI2 := hI.e hB hE2
      have hst2 := hI2.1
      have htw2 := hE2 _ _ htw
      have hf2 := hE2 _ _ hf
      have hiw := isST_t hI2 (t := i) (by omega)
      unfold twX twE at hiw
      have hSi := hSi (by omega)
      have hfi := hfe i (by omega) (by omega)
      refine y_ccast E dX2_nextOf_23 q1008 (hiw) rfl (Or.inl rfl) ?_
      first | refine y_ast E dX2_nextOf_26 (Nat.le_of_ble_eq_true rfl) ?_ | refine y_astore E dX2_nextOf_26 (Nat.le_of_ble_eq_true rfl) ?_ | refine y_astore (r := none) E dX2_nextOf_26 (Nat.le_of_ble_eq_true rfl) ?_
      first | refine y_ald_n E dX2_nextOf_28 (by rfl) ?_ | refine y_aload_n E dX2_nextOf_28 (by rfl) ?_
      first | refine y_ald E dX2_nextOf_29 (by rfl) ?_ | refine y_aload E dX2_nextOf_29 (by rfl) ?_
      refine y_getN E dX2_nextOf_31 fl_X2_137_X6 (hiw) (by rfl) ?_
      refine y_iald E dX2_nextOf_34 (hf2) (by omega) ?_
      first | refine y_ald_n E dX2_nextOf_35 (by rfl) ?_ | refine y_aload_n E dX2_nextOf_35 (by rfl) ?_
      first | refine y_ald_n E dX2_nextOf_36 (by rfl) ?_ | refine y_aload_n E dX2_nextOf_36 (by rfl) ?_
      refine y_getN E dX2_nextOf_37 fl_X2_137_X6 (htw2) (by rfl) ?_
      refine y_iald E dX2_nextOf_40 (hf2) (by omega) ?_
      refine y_iconst E dX2_nextOf_41 ?_
      refine y_isub E dX2_nextOf_42 ?_
      refine y_icmp_ne (tgt := 59) E dX2_nextOf_43 (by decide) (by omega) (by omega) (fun h43 => ?_) (fun h43 => ?_)
      · refine y_goto (tgt := 8) E dX2_nextOf_59 (by decide) ?_
        refine ih (by omega) _ _ hE2 hit2 (by omega) (low_s hj (fun q => ?_))
        first
          | exact h53 q.1
          | (have q1 := q.2; omega)
      · first | refine y_ald_n E dX2_nextOf_46 (by rfl) ?_ | refine y_aload_n E dX2_nextOf_46 (by rfl) ?_
        first | refine y_ald_n E dX2_nextOf_47 (by rfl) ?_ | refine y_aload_n E dX2_nextOf_47 (by rfl) ?_
        first | refine y_ald E dX2_nextOf_48 (by rfl) ?_ | refine y_aload E dX2_nextOf_48 (by rfl) ?_
        refine y_callV E dX2_nextOf_50 lk_X2_187 (c_X2_canSignal hB2 hI2 hS hL ht (u := i) (by omega)) (by rfl) (hst2) rfl (by decide) (by omega) (by omega) rfl (Nat.le_of_ble_eq_true rfl) ?_ (fun _ _ _ h => h.elim)
        rintro _ _ ⟨rfl, hG9⟩
        rw [hG9]
        clear hG9
        refine y_ifd_eq (tgt := 59) E dX2_nextOf_53 (by decide) (fun h53 => ?_) (fun h53 => ?_)
        · refine y_goto (tgt := 8) E dX2_nextOf_59 (by decide) ?_
          refine ih (by omega) _ _ hE2 hit2 (by omega) (low_s hj (fun q => ?_))
          first
            | exact h53 q.1
            | (have q1 := q.2; omega)
        · refine y_forget hE2 ?_
          first | refine y_ald E dX2_nextOf_56 (by rfl) ?_ | refine y_aload E dX2_nextOf_56 (by rfl) ?_
          refine y_areturn (r := some _) E F rfl (Or.inl ⟨_, rfl⟩) dX2_nextOf_58 (by omega) (by omega) ⟨by rw [show nxS w o t = (i : Int) from fst_hit (by omega) (by omega) ⟨h53, by omega⟩ hj]; rfl, rfl⟩
  first | refine y_ald_n E dX2_nextOf_0 (by rfl) ?_ | refine y_aload_n E dX2_nextOf_0 (by rfl) ?_
  refine y_get E dX2_nextOf_1 fl_X2_12_X2 (hst) (by rfl) ?_
  refine y_callV E dX2_nextOf_4 lk_X2_33 (c_it_new hB hal) (by rfl) (hac) rfl (by decide) (by omega) (by omega) rfl (Nat.le_of_ble_eq_true rfl) ?_ (fun _ _ _ h => h.elim)
  rintro _ G1 ⟨it, vv, rfl, h0, hit, hG9⟩
  first | refine y_ast_n (j := 3) E dX2_nextOf_7 rfl (Nat.le_of_ble_eq_true rfl) ?_ | refine y_astore_n (j := 3) E dX2_nextOf_7 rfl (Nat.le_of_ble_eq_true rfl) ?_ | refine y_astore_n (j := 3) (r := none) E dX2_nextOf_7 rfl (Nat.le_of_ble_eq_true rfl) ?_
  exact loop it h0 0 G1 _ (by rw [hG9]; exact gExt_n h0) hit (by omega) (fun j a b => by omega)
end Nx
