/-! ===== State.fewest, the walk ===== -/
section Fx
variable {Γ : yG} {G : yH} {st a : Nat} {S : SA} {w : Int → Int}
theorem tb_shl : ∀ k : Nat, k < 8 → iI 1 <<< (iI (k : Int) &&& 31) = iI ((2 ^ k : Nat) : Int) := by decide +kernel
theorem tb_ior : ∀ x : Nat, x < 256 → ∀ k : Nat, k < 8 → iI (x : Int) ||| iI ((2 ^ k : Nat) : Int) = iI ((x ||| 2 ^ k : Nat) : Int) := by decide +kernel
theorem umk_s {m i : Nat} : umk m ((i + 1 : Nat) : Int) = umk m i + b2i (dB (m.testBit i = false)) := by
  unfold umk
  rw [show ((i + 1 : Nat) : Int) = (i : Int) + 1 by omega, sumI_s (by omega)]
  simp only [Int.toNat_natCast]
theorem umk_mono {m i : Nat} {n : Int} (hi : (i : Int) ≤ n) : umk m i ≤ umk m n := by
  have key : ∀ d : Nat, ∀ j : Nat, umk m (j : Int) ≤ umk m ((j + d : Nat) : Int) := by
    intro d
    induction d with
    | zero => intro j; exact Int.le_refl _
    | succ d ih =>
      intro j
      have e := umk_s (m := m) (i := j + d)
      have := (b2i_le (dB (m.testBit (j + d) = false))).1
      have := ih j
      rw [show j + (d + 1) = (j + d) + 1 by omega]
      omega
  have k2 := key (n.toNat - i) i
  rw [show ((i + (n.toNat - i) : Nat) : Int) = n by omega] at k2
  exact k2
theorem umk_le {m i : Nat} {n : Int} (hi : (i : Int) < n) (h : m.testBit i = false) : umk m i + 1 ≤ umk m n := by
  have k2 := umk_mono (m := m) (i := i + 1) (n := n) (by omega)
  rw [umk_s, b2i_dt h] at k2
  exact k2
abbrev FEW (Γ : yG) (st a : Nat) (S : SA) (w : Int → Int) (o c : Nat) : Prop := ∀ (G1 : yH) (m t : Nat), gB Γ G1 → isST Γ G1 st a S w → m < 256 → umk m (w 10) = c → (t : Int) < w 10 → Ct_X2_fewest Γ (5 + c) (fcM c) (4 * fcM c) [.ref a, .ref (sTa S t), .ref (sTa S o), .int (iI (m : Int))] G1 (fun v G' => (∃ r, v = some (.int (iI r)) ∧ fwR w o m t r) ∧ G' = G1) noX
theorem fcM_e (c : Nat) : fcM c = 1 + c * fcM (c - 1) := by
  cases c with
  | zero => rfl
  | succ c => rfl
set_option maxHeartbeats 4000000
theorem c_few_step {L9 m9 s9 c o : Nat} (hL9 : L9 = 5 + c) (hm9 : m9 = fcM c) (hs9 : s9 = 4 * fcM c) (ih : ∀ c', c = c' + 1 → FEW Γ st a S w o c') (hS : SH w) (hL : LSW w) (ho : (o : Int) < w 10) {m t : Nat} (hB : gB Γ G) (hI : isST Γ G st a S w) (hm : m < 256) (hu : umk m (w 10) = c) (ht : (t : Int) < w 10) : Ct_X2_fewest Γ L9 m9 s9 [.ref a, .ref (sTa S t), .ref (sTa S o), .int (iI (m : Int))] (G) (fun v G' => (∃ r, v = some (.int (iI r)) ∧ fwR w o m t r) ∧ G' = G) (noX) := by
  refine y_start (lv0 := [some (.ref a), some (.ref (sTa S t)), some (.ref (sTa S o)), some (.int (iI (m : Int))), none, none, none]) (nm := "fewest") (own := RX2) (by decide +kernel) rfl rfl (by exact Nat.le_of_ble_eq_true rfl) (by rfl) ?_
  intro Z Q E F
  have hst := hI.1
  have hn := hS.nt
  have hal := hI.2.1
  obtain ⟨fal, hac⟩ := hal.c
  have hlen := twL_len S w
  have hfe := fcM_e c
  obtain ⟨X, hX⟩ : ∃ X, X = fcM (c - 1) := ⟨_, rfl⟩
  rw [← hX] at hfe
  obtain ⟨cX, hcX⟩ : ∃ cX, cX = c * X := ⟨_, rfl⟩
  rw [← hcX] at hfe
  have loop : (t : Int) ≠ o → ∀ it, G it = none → ∀ i : Nat, ∀ (G1 : yH) (n : Int) (J : Nat) (l6 : Option Value), gExt G G1 → isIT Γ G1 it (sTl S) (st, 1) (twL S w) i → (i : Int) ≤ w 10 → fwL w o m t i n → J = (umk m i).toNat * X → J ≤ cX → Y Γ Z (1 + J) (4 + 4 * J) Q G1 20 [some (.ref a), some (.ref (sTa S t)), some (.ref (sTa S o)), some (.int (iI (m : Int))), some (.int (iI n)), some (.ref it), l6] [] := by
    intro hto it h0
    refine loopDownN (w 10).toNat ?_
    intro i ihl G1 n J l6 hE hit hi hfl hJ hJc
    obtain ⟨fs, hitc⟩ := hit.c
    have hn8 := hfl.1
    first | refine y_ald E dX2_fewest_20 (by rfl) ?_ | refine y_aload E dX2_fewest_20 (by rfl) ?_
    refine y_callF E dX2_fewest_22 lk_X2_37_J24 (c_it_has hit (by omega)) (by rfl) (hitc) rfl (by omega) (by omega) (by omega) rfl (Nat.le_of_ble_eq_true rfl) ?_ (fun _ _ _ h => h.elim)
    rintro _ _ ⟨rfl, hG9⟩
    rw [hG9]
    clear hG9
    refine y_ifd_eq (tgt := 92) E dX2_fewest_27 (by decide) (fun h27 => ?_) (fun h27 => ?_)
    · refine y_forget hE ?_
      refine y_iload E dX2_fewest_92 (by rfl) ?_
      refine y_ireturn E F rfl rfl dX2_fewest_94 (by omega) (by omega) ⟨⟨n, rfl, fwL_end hto (by rw [show w 10 = (i : Int) by omega]; exact hfl)⟩, rfl⟩
    · first | refine y_ald E dX2_fewest_30 (by rfl) ?_ | refine y_aload E dX2_fewest_30 (by rfl) ?_
      refine y_callF E dX2_fewest_32 lk_X2_43_J24 (c_it_next hit (twL_at (by omega))) (by rfl) (hitc) rfl (by omega) (by omega) (by omega) rfl (Nat.le_of_ble_eq_true rfl) ?_ (fun _ _ _ h => h.elim)
      rintro _ _ ⟨rfl, hit2, vv, hG9⟩
      rw [hG9] at hit2 ⊢
      clear hG9
      have hE2 := gExt_w hE (some yT0, vv) h0
      have hB2 := hB.e hE2
      have hI2 := hI.e hB hE2
      have hst2 := hI2.1
      have hiw := isST_t hI2 (t := i) (by omega)
      unfold twX twE at hiw
      have hus := umk_s (m := m) (i := i)
      have hub := umk_b (m := m) (n := (i : Int)) (by omega)
      have hmn := umk_mono (m := m) (i := i + 1) (n := w 10) (by omega)
      have hmn2 := umk_mono (m := m) (i := i) (n := ((i + 1 : Nat) : Int)) (by omega)
      obtain ⟨J', hJ'⟩ : ∃ J', J' = (umk m ((i + 1 : Nat) : Int)).toNat * X := ⟨_, rfl⟩
      have hJJ : J ≤ J' := by
        rw [hJ, hJ']
        exact Nat.mul_le_mul_right _ (by omega)
      have hJc' : J' ≤ cX := by
        rw [hcX, hJ']
        exact Nat.mul_le_mul_right _ (by omega)
      refine y_ccast E dX2_fewest_37 q1008 (hiw) rfl (Or.inl rfl) ?_
      first | refine y_ast E dX2_fewest_40 (Nat.le_of_ble_eq_true rfl) ?_ | refine y_astore E dX2_fewest_40 (Nat.le_of_ble_eq_true rfl) ?_ | refine y_astore (r := none) E dX2_fewest_40 (Nat.le_of_ble_eq_true rfl) ?_
      refine y_iload_n E dX2_fewest_42 (by rfl) ?_
      first | refine y_ald E dX2_fewest_43 (by rfl) ?_ | refine y_aload E dX2_fewest_43 (by rfl) ?_
      refine y_getN E dX2_fewest_45 fl_X2_137_X6 (hiw) (by rfl) ?_
      refine y_ishr E dX2_fewest_48 (v := iI (m : Int) >>> (iI (i : Int) &&& 31)) rfl ?_
      refine y_iconst E dX2_fewest_49 ?_
      obtain ⟨bb, hbb⟩ : ∃ bb, bb = m / 2 ^ i % 2 := ⟨_, rfl⟩
      have hb2 : bb < 2 := by rw [hbb]; exact Nat.mod_lt _ (by omega)
      have htb := tb_bit m i
      rw [show (2 : Nat) ^ 1 = 2 from rfl, ← hbb] at htb
      refine y_iand E dX2_fewest_50 (v := iI (bb : Int)) (by rw [hbb]; exact tb_bits m hm i (by omega)) ?_
      refine y_if_ne (tgt := 89) E dX2_fewest_51 (by decide) (by omega) (fun h51 => ?_) (fun h51 => ?_)
      · refine y_goto (tgt := 20) E dX2_fewest_89 (by decide) ?_
        first
          | exact y_widen (by omega) (by omega) (ihl (by omega) _ _ (J + X) _ hE2 hit2 (by omega) (fwL_step ⟨by omega, ht⟩ (by omega) hfl h61 hfr) hJ2 hJX)
          | exact y_widen (by omega) (by omega) (ihl (by omega) _ n J' _ hE2 hit2 (by omega) (fwL_skip hfl (fun q1 q2 => h61 q1)) hJ' hJc')
          | exact y_widen (by omega) (by omega) (ihl (by omega) _ n J' _ hE2 hit2 (by omega) (fwL_skip hfl (fun q1 q2 => by rw [q2] at htb; have := htb.mp (by omega); cases this)) hJ' hJc')
      · first | refine y_ald_n E dX2_fewest_54 (by rfl) ?_ | refine y_aload_n E dX2_fewest_54 (by rfl) ?_
        first | refine y_ald_n E dX2_fewest_55 (by rfl) ?_ | refine y_aload_n E dX2_fewest_55 (by rfl) ?_
        first | refine y_ald E dX2_fewest_56 (by rfl) ?_ | refine y_aload E dX2_fewest_56 (by rfl) ?_
        refine y_callV E dX2_fewest_58 lk_X2_187 (c_X2_canSignal hB2 hI2 hS hL ht (u := i) (by omega)) (by rfl) (hst2) rfl (by omega) (by omega) (by omega) rfl (Nat.le_of_ble_eq_true rfl) ?_ (fun _ _ _ h => h.elim)
        rintro _ _ ⟨rfl, hG9⟩
        rw [hG9]
        clear hG9
        refine y_ifd_eq (tgt := 89) E dX2_fewest_61 (by decide) (fun h61 => ?_) (fun h61 => ?_)
        · refine y_goto (tgt := 20) E dX2_fewest_89 (by decide) ?_
          first
            | exact y_widen (by omega) (by omega) (ihl (by omega) _ _ (J + X) _ hE2 hit2 (by omega) (fwL_step ⟨by omega, ht⟩ (by omega) hfl h61 hfr) hJ2 hJX)
            | exact y_widen (by omega) (by omega) (ihl (by omega) _ n J' _ hE2 hit2 (by omega) (fwL_skip hfl (fun q1 q2 => h61 q1)) hJ' hJc')
            | exact y_widen (by omega) (by omega) (ihl (by omega) _ n J' _ hE2 hit2 (by omega) (fwL_skip hfl (fun q1 q2 => by rw [q2] at htb; have := htb.mp (by omega); cases this)) hJ' hJc')
        · have hmf : m.testBit i = false := by
            cases e : m.testBit i with
            | false => rfl
            | true => have := htb.mpr e; omega
          have hcu := umk_le (n := w 10) (by omega) hmf
          have hor := umk_or (n := w 10) (by omega) hmf
          have hJX : J + X ≤ cX := by
            rw [hJ, hcX, ← Nat.succ_mul]
            exact Nat.mul_le_mul_right _ (by omega)
          have hJ2 : J + X = (umk m ((i + 1 : Nat) : Int)).toNat * X := by
            rw [b2i_dt hmf] at hus
            rw [hJ, ← Nat.succ_mul, show (umk m ((i + 1 : Nat) : Int)).toNat = (umk m i).toNat.succ by omega]
          refine y_iload E dX2_fewest_64 (by rfl) ?_
          refine y_iconst E dX2_fewest_66 ?_
          first | refine y_ald_n E dX2_fewest_67 (by rfl) ?_ | refine y_aload_n E dX2_fewest_67 (by rfl) ?_
          first | refine y_ald E dX2_fewest_68 (by rfl) ?_ | refine y_aload E dX2_fewest_68 (by rfl) ?_
          first | refine y_ald_n E dX2_fewest_70 (by rfl) ?_ | refine y_aload_n E dX2_fewest_70 (by rfl) ?_
          refine y_iload_n E dX2_fewest_71 (by rfl) ?_
          refine y_iconst E dX2_fewest_72 ?_
          first | refine y_ald E dX2_fewest_73 (by rfl) ?_ | refine y_aload E dX2_fewest_73 (by rfl) ?_
          refine y_getN E dX2_fewest_75 fl_X2_137_X6 (hiw) (by rfl) ?_
          refine y_ishl E dX2_fewest_78 (tb_shl i (by omega)) ?_
          refine y_ior E dX2_fewest_79 (tb_ior m hm i (by omega)) ?_
          refine y_callV E dX2_fewest_80 lk_X2_201 (ih (c - 1) (by omega) _ (m ||| 2 ^ i) i hB2 hI2 (tb_or_lt hm (by omega)) (by omega) (by omega)) (by rfl) (hst2) rfl (by omega) (by omega) (by omega) rfl (Nat.le_of_ble_eq_true rfl) ?_ (fun _ _ _ h => h.elim)
          rintro _ _ ⟨⟨r, rfl, hfr⟩, rfl⟩
          have hr8 := hfr.1
          refine y_iadd E dX2_fewest_83 ?_
          refine y_mmin E dX2_fewest_84 q1932 (by omega) (by omega) (by omega) (by omega) (by omega) (Nat.le_of_ble_eq_true rfl) ?_
          refine y_istore E dX2_fewest_87 (Nat.le_of_ble_eq_true rfl) ?_
          refine y_goto (tgt := 20) E dX2_fewest_89 (by decide) ?_
          first
            | exact y_widen (by omega) (by omega) (ihl (by omega) _ _ (J + X) _ hE2 hit2 (by omega) (fwL_step ⟨by omega, ht⟩ (by omega) hfl h61 hfr) hJ2 hJX)
            | exact y_widen (by omega) (by omega) (ihl (by omega) _ n J' _ hE2 hit2 (by omega) (fwL_skip hfl (fun q1 q2 => h61 q1)) hJ' hJc')
            | exact y_widen (by omega) (by omega) (ihl (by omega) _ n J' _ hE2 hit2 (by omega) (fwL_skip hfl (fun q1 q2 => by rw [q2] at htb; have := htb.mp (by omega); cases this)) hJ' hJc')
  first | refine y_ald_n E dX2_fewest_0 (by rfl) ?_ | refine y_aload_n E dX2_fewest_0 (by rfl) ?_
  first | refine y_ald_n E dX2_fewest_1 (by rfl) ?_ | refine y_aload_n E dX2_fewest_1 (by rfl) ?_
  refine y_acmp_ne (x := some (sTa S t)) (y := some (sTa S o)) (tgt := 7) E dX2_fewest_2 (by decide) (fun h2 => ?_) (fun h2 => ?_)
  · refine y_bipush E dX2_fewest_7 (by decide) ?_
    refine y_istore E dX2_fewest_9 (Nat.le_of_ble_eq_true rfl) ?_
    first | refine y_ald_n E dX2_fewest_11 (by rfl) ?_ | refine y_aload_n E dX2_fewest_11 (by rfl) ?_
    refine y_get E dX2_fewest_12 fl_X2_12_X2 (hst) (by rfl) ?_
    refine y_callV E dX2_fewest_15 lk_X2_33 (c_it_new hB hal) (by rfl) (hac) rfl (by omega) (by omega) (by omega) rfl (Nat.le_of_ble_eq_true rfl) ?_ (fun _ _ _ h => h.elim)
    rintro _ G1 ⟨it, vv, rfl, h0, hit, hG9⟩
    first | refine y_ast E dX2_fewest_18 (Nat.le_of_ble_eq_true rfl) ?_ | refine y_astore E dX2_fewest_18 (Nat.le_of_ble_eq_true rfl) ?_ | refine y_astore (r := none) E dX2_fewest_18 (Nat.le_of_ble_eq_true rfl) ?_
    have hto : (t : Int) ≠ o := fun e => h2 (by rw [show t = o by omega])
    exact y_widen (by omega) (by omega) (loop hto it h0 0 G1 8 0 _ (by rw [hG9]; exact gExt_n h0) hit (by omega) fwL_0 (by unfold umk; rw [show ((0 : Nat) : Int) = 0 from rfl, sumI_0]; simp) (by omega))
  · refine y_iconst E dX2_fewest_5 ?_
    refine y_ireturn E F rfl rfl dX2_fewest_6 (by omega) (by omega) ⟨⟨0, rfl, ⟨by omega, fun _ => (show (t : Int) = o by rw [sTa_inj hI hn.2 ht ho (Option.some.inj h2)]), fun k _ => by omega⟩⟩, rfl⟩
theorem c_X2_fewest (hS : SH w) (hL : LSW w) {o : Nat} (ho : (o : Int) < w 10) : ∀ c, FEW Γ st a S w o c
  | 0 => fun G1 m t hB hI hm hu ht => c_few_step rfl rfl rfl (fun c' e => by omega) hS hL ho hB hI hm hu ht
  | c + 1 => fun G1 m t hB hI hm hu ht => c_few_step rfl rfl rfl (fun c' e => by cases e; exact c_X2_fewest hS hL ho c) hS hL ho hB hI hm hu ht
end Fx
