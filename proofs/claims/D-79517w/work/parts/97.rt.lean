/-! ===== State.route ===== -/
section Ro
variable {Γ : yG} {G : yH} {st a : Nat} {S : SA} {w : Int → Int}
theorem sTa_inj (h : isST Γ G st a S w) (h8 : w 10 ≤ 8) {t u : Nat} (ht : (t : Int) < w 10) (hu : (u : Int) < w 10) (e : sTa S t = sTa S u) : t = u := by
  have h1 := isST_t h ht
  have h2 := isST_t h hu
  rw [e, h2] at h1
  by_cases d : t = u
  · exact d
  · exact absurd (Option.some.inj h1).symm (twX_ne (by omega) (by omega) d)
/-- the first n towers of a route -/
noncomputable def rtN (S : SA) (w : Int → Int) (o t : Int) (n : Nat) : List Nat := (List.range n).map (fun i : Nat => sTa S (rtS w o t (i : Int)).toNat)
theorem rtN_s {o t : Int} {n : Nat} : (rtN S w o t n).map some ++ [some (sTa S (rtS w o t (n : Int)).toNat)] = (rtN S w o t (n + 1)).map some := by
  unfold rtN
  rw [List.range_succ, List.map_append, List.map_append]
  rfl
theorem rtN_l {o t : Int} {n : Nat} : ((rtN S w o t (n + 1)).map some).getLast? = some (some (sTa S (rtS w o t (n : Int)).toNat)) := by
  rw [← rtN_s, List.getLast?_concat]
theorem gF_g {τ : Nat × Nat} {G G' : yH} (h : G' = G) (hF : gF τ G) : gF τ G' := by rw [h]; exact hF
set_option maxHeartbeats 4000000
theorem c_X2_route (hs1 : 0 < st) (hB : gB Γ G) (hO : gOK G) (hI : isST Γ G st a S w) (hS : SH w) (hL : LSW w) {t o : Nat} (ht : (t : Int) < w 10) (ho : (o : Int) < w 10) : Ct_X2_route Γ 6 27 116 [.ref a, .ref (sTa S t), .ref (sTa S o)] (G) (fun v G' => ∃ q, v = some (.ref q) ∧ isLL G' (0, 97) q ((rtN S w o t (dS w o t + 1).toNat).map some) ∧ gExt G G') (noX) := by
  refine y_start (lv0 := [some (.ref a), some (.ref (sTa S t)), some (.ref (sTa S o)), none, none]) (nm := "route") (own := RX2) (by decide +kernel) rfl rfl (by exact Nat.le_of_ble_eq_true rfl) (by rfl) ?_
  intro Z Q E F
  have hn := hS.nt
  have hst := hI.1
  have htw := isST_t hI ht
  unfold twX at htw
  have how := isST_t hI ho
  unfold twX at how
  have hdt := dS_in (w := w) (o := (o : Int)) (t := (t : Int)) hn (by omega)
  have loop : 0 ≤ dS w o t → ∀ (l dd : Nat) (f : Int → Int), (∀ j, 0 ≤ j → j < 8 → f j = dS w o j) → ∀ i : Nat, ∀ (G1 : yH), gExt G G1 → G1 dd = some (some (0, 95), aI 0 8 f) → isLL G1 (0, 97) l ((rtN S w o t (i + 1)).map some) → (i : Int) ≤ dS w o t → Y Γ Z (13 + 2 * i) (67 + 7 * i) Q G1 33 [some (.ref a), some (.ref (sTa S t)), some (.ref (sTa S o)), some (.ref l), some (.ref dd)] [] := by
    intro hd0 l dd f hf
    refine loopDownN 8 ?_
    intro i ih G1 hE hdd hll hi
    have hr := rtS_ok hn.1 (o := (o : Int)) (t := (t : Int)) ⟨by omega, ht⟩ hd0 i (by omega) hi
    have er : (((rtS w o t i).toNat : Nat) : Int) = rtS w o t i := by omega
    obtain ⟨fl, hllc⟩ := hll.c
    have hB1 := hB.e hE
    have hI1 := hI.e hB hE
    have hst1 := hI1.1
    have hrw := isST_t hI1 (t := (rtS w o t i).toNat) (by omega)
    unfold twX at hrw
    first | refine y_ald_n E dX2_route_33 (by rfl) ?_ | refine y_aload_n E dX2_route_33 (by rfl) ?_
    refine y_callV E dX2_route_34 lk_X2_194 (c_J4_getLast hll rtN_l) (by rfl) (hllc) rfl (by decide) (by omega) (by omega) rfl (Nat.le_of_ble_eq_true rfl) ?_ (fun _ _ _ h => h.elim)
    rintro _ _ ⟨rfl, hG9⟩
    rw [hG9]
    clear hG9
    first | refine y_ald_n E dX2_route_37 (by rfl) ?_ | refine y_aload_n E dX2_route_37 (by rfl) ?_
    refine y_acmp_eq (x := some (sTa S (rtS w o t i).toNat)) (y := some (sTa S o)) (tgt := 62) E dX2_route_38 (by decide) (fun h38 => ?_) (fun h38 => ?_)
    · have hio : (i : Int) = dS w o t := by
        have e1 := sTa_inj hI1 hn.2 (by omega) ho (Option.some.inj h38)
        have e2 : dS w o (rtS w o t i) = 0 := dS_0.mpr (by omega)
        omega
      first | refine y_ald_n E dX2_route_62 (by rfl) ?_ | refine y_aload_n E dX2_route_62 (by rfl) ?_
      refine y_areturn (r := some _) E F rfl (by first | exact Or.inl ⟨_, rfl⟩ | exact Or.inr ⟨_, rfl⟩) dX2_route_63 (by omega) (by omega) ⟨l, rfl, by rw [show (dS w o t + 1).toNat = i + 1 by omega]; exact hll, hE⟩
    · have hlt : (i : Int) < dS w o t := by
        by_cases e : dS w o (rtS w o t i) = 0
        · exact absurd (by rw [dS_0.mp e, Int.toNat_natCast]) h38
        · omega
      first | refine y_ald_n E dX2_route_41 (by rfl) ?_ | refine y_aload_n E dX2_route_41 (by rfl) ?_
      first | refine y_ald_n E dX2_route_42 (by rfl) ?_ | refine y_aload_n E dX2_route_42 (by rfl) ?_
      first | refine y_ald_n E dX2_route_43 (by rfl) ?_ | refine y_aload_n E dX2_route_43 (by rfl) ?_
      refine y_callV E dX2_route_44 lk_X2_194 (c_J4_getLast hll rtN_l) (by rfl) (hllc) rfl (by decide) (by omega) (by omega) rfl (Nat.le_of_ble_eq_true rfl) ?_ (fun _ _ _ h => h.elim)
      rintro _ _ ⟨rfl, hG9⟩
      rw [hG9]
      clear hG9
      refine y_ccast E dX2_route_47 q1008 (hrw) rfl (Or.inl rfl) ?_
      first | refine y_ald E dX2_route_50 (by rfl) ?_ | refine y_aload E dX2_route_50 (by rfl) ?_
      refine y_callV E dX2_route_52 lk_X2_197 (c_X2_nextOf hB1 hI1 hS hL (o := (o : Int)) (by omega) hdd hf (t := (rtS w o t i).toNat) (by omega) (by rw [er]; omega)) (by rfl) (hst1) rfl (by decide) (by omega) (by omega) rfl (Nat.le_of_ble_eq_true rfl) ?_ (fun _ _ _ h => h.elim)
      rintro _ _ ⟨rfl, hG9⟩
      rw [hG9]
      clear hG9
      rw [er]
      refine y_callV E dX2_route_55 lk_X2_75 (c_J4_add (x := some (sTa S (nxS w o (rtS w o t i)).toNat)) hll) (by rfl) (hllc) rfl (by decide) (by omega) (by omega) rfl (Nat.le_of_ble_eq_true rfl) ?_ (fun _ _ _ h => h.elim)
      rintro _ G2 ⟨rfl, hll2, hk2⟩
      refine y_pop E dX2_route_58 rfl ?_
      refine y_goto (tgt := 33) E dX2_route_59 (by decide) ?_
      have hE2 := gE_K hE hk2 hO.2
      exact y_widen (by omega) (by omega) (ih (by omega) G2 hE2 (hk2.at hdd (by simp)) (by rw [← rtN_s, show rtS w o t ((i + 1 : Nat) : Int) = nxS w o (rtS w o t i) from by rw [show ((i + 1 : Nat) : Int) = (i : Int) + 1 by omega]; exact rtS_s (by omega)]; exact hll2) (by omega))
  refine y_new E (0, 97) dX2_route_0 nw_X2_21 (by omega) (by omega) (fun q0 hq0 => ?_)
  refine y_dup E dX2_route_3 rfl ?_
  refine y_callI E dX2_route_4 lk_X2_23 (c_J4_init (gset_s _ _ _)) (by rfl) (by decide) (by omega) (by omega) rfl (Nat.le_of_ble_eq_true rfl) ?_ (fun _ _ _ h => h.elim)
  rintro _ G1 ⟨rfl, hll1, vv, hG9⟩
  rw [gset_gset] at hG9
  have hG1 := hG9
  have hE1 : gExt G G1 := by rw [hG9]; exact gExt_n hq0
  have hB1 := hB.e hE1
  have hI1 := hI.e hB hE1
  have hst1 := hI1.1
  first | refine y_ast_n (j := 3) E dX2_route_7 rfl (Nat.le_of_ble_eq_true rfl) ?_ | refine y_astore_n (j := 3) E dX2_route_7 rfl (Nat.le_of_ble_eq_true rfl) ?_ | refine y_astore_n (j := 3) (r := none) E dX2_route_7 rfl (Nat.le_of_ble_eq_true rfl) ?_
  first | refine y_ald_n E dX2_route_8 (by rfl) ?_ | refine y_aload_n E dX2_route_8 (by rfl) ?_
  first | refine y_ald_n E dX2_route_9 (by rfl) ?_ | refine y_aload_n E dX2_route_9 (by rfl) ?_
  refine y_callV E dX2_route_10 lk_X2_190 (c_X2_signalsTo (0, 95) (by simp) (by simp [yT0]) (by simp) hs1 hB1 (gF_g hG1 (gF_set hO.1 (by simp))) hI1 hS hL (t := o) ho) (by rfl) (hst1) rfl (by decide) (by omega) (by omega) rfl (Nat.le_of_ble_eq_true rfl) ?_ (fun _ _ _ h => h.elim)
  rintro _ G3 ⟨dd, f, rfl, hd0, hG8, hf⟩
  have hE31 : gExt G1 G3 := by rw [hG8]; exact gExt_n hd0
  have hE3 := gExt_t hE1 hE31
  have hdd : G3 dd = some (some (0, 95), aI 0 8 f) := by rw [hG8]; exact gset_s _ _ _
  have hll3 := hll1.kk (gK_e (P := fun _ => False) hE31) id
  obtain ⟨fl, hllc⟩ := hll3.c
  have htw3 := hE3 _ _ htw
  have hft := hf t (by omega) (by omega)
  first | refine y_ast E dX2_route_13 (Nat.le_of_ble_eq_true rfl) ?_ | refine y_astore E dX2_route_13 (Nat.le_of_ble_eq_true rfl) ?_ | refine y_astore (r := none) E dX2_route_13 (Nat.le_of_ble_eq_true rfl) ?_
  first | refine y_ald E dX2_route_15 (by rfl) ?_ | refine y_aload E dX2_route_15 (by rfl) ?_
  first | refine y_ald_n E dX2_route_17 (by rfl) ?_ | refine y_aload_n E dX2_route_17 (by rfl) ?_
  refine y_getN E dX2_route_18 fl_X2_137_X6 (htw3) (by rfl) ?_
  refine y_iald E dX2_route_21 (hdd) (by omega) ?_
  refine y_if_ge (tgt := 27) E dX2_route_22 (by decide) (by omega) (fun h22 => ?_) (fun h22 => ?_)
  · first | refine y_ald_n E dX2_route_27 (by rfl) ?_ | refine y_aload_n E dX2_route_27 (by rfl) ?_
    first | refine y_ald_n E dX2_route_28 (by rfl) ?_ | refine y_aload_n E dX2_route_28 (by rfl) ?_
    refine y_callV E dX2_route_29 lk_X2_75 (c_J4_add (x := some (sTa S t)) hll3) (by rfl) (hllc) rfl (by decide) (by omega) (by omega) rfl (Nat.le_of_ble_eq_true rfl) ?_ (fun _ _ _ h => h.elim)
    rintro _ G4 ⟨rfl, hll4, hk4⟩
    refine y_pop E dX2_route_32 rfl ?_
    exact y_widen (by omega) (by omega) (loop (by omega) q0 dd f hf 0 G4 (gE_K hE3 hk4 hO.2) (hk4.at hdd (by simp)) (by rw [← rtN_s, show rtS w o t ((0 : Nat) : Int) = t from rtS_0 _ _ _]; exact hll4) (by omega))
  · first | refine y_ald_n E dX2_route_25 (by rfl) ?_ | refine y_aload_n E dX2_route_25 (by rfl) ?_
    refine y_areturn (r := some _) E F rfl (by first | exact Or.inl ⟨_, rfl⟩ | exact Or.inr ⟨_, rfl⟩) dX2_route_26 (by omega) (by omega) ⟨q0, rfl, by rw [show (dS w o t + 1).toNat = 0 by omega]; exact hll3, hE3⟩
end Ro
