/-! ===== the twin: patterns ===== -/
theorem loopDown {P : Int → Prop} (B : Int) (h : ∀ i, (i < B → P (i + 1)) → P i) : ∀ i, P i := by
  have : ∀ (d : Nat) (i : Int), B - i ≤ d → P i := by
    intro d
    induction d with
    | zero => intro i hi; exact h i (fun q => by omega)
    | succ d ih => intro i hi; exact h i (fun q => ih (i + 1) (by omega))
  exact fun i => this (B - i).toNat i (by omega)
theorem loopDownN {P : Nat → Prop} (B : Nat) (h : ∀ i, (i < B → P (i + 1)) → P i) : ∀ i, P i := by
  have : ∀ (d : Nat) (i : Nat), B - i ≤ d → P i := by
    intro d
    induction d with
    | zero => intro i hi; exact h i (fun q => by omega)
    | succ d ih => intro i hi; exact h i (fun q => ih (i + 1) (by omega))
  exact fun i => this (B - i) i (by omega)
section Bt
theorem iI_or (a b : Nat) : iI (a : Int) ||| iI (b : Int) = iI ((a ||| b : Nat) : Int) := by
  rw [← iI_nI, ← iI_nI, ← iI_nI]
  apply Int32.toBitVec_inj.mp
  rw [Int32.toBitVec_or]
  show BitVec.ofNat 32 a ||| BitVec.ofNat 32 b = BitVec.ofNat 32 (a ||| b)
  exact BitVec.ofNat_or.symm
theorem tb_shl1 : ∀ s : Nat, s < 256 → iI (s : Int) <<< (iI 1 &&& 31) = iI ((2 * s : Nat) : Int) := by decide +kernel
theorem tb_1shl : ∀ m : Nat, m < 31 → iI 1 <<< (iI (m : Int) &&& 31) = iI ((2 ^ m : Nat) : Int) := by decide +kernel
theorem tb_bshl : ∀ b : Nat, b < 2 → ∀ j : Nat, j < 8 → iI (b : Int) <<< (iI (j : Int) &&& 31) = iI ((b * 2 ^ j : Nat) : Int) := by decide +kernel
theorem tb_mask : ∀ m : Nat, m < 9 → (iI (((2 ^ m : Nat) : Int) - 1)).toBitVec.toNat = 2 ^ m - 1 := by decide +kernel
/-- a pattern turned by one sign -/
def turnN (s m : Nat) : Nat := (2 * s ||| s / 2 ^ (m - 1)) % 2 ^ m
def tn0 (s m : Nat) : Nat → Nat
  | 0 => s
  | i + 1 => turnN (tn0 s m i) m
/-- the pattern from its end -/
def bk0 (s m : Nat) : Nat → Nat
  | 0 => 0
  | k + 1 => bk0 s m k ||| (s / 2 ^ k % 2 ^ 1) * 2 ^ (m - 1 - k)
def dtiP (s o m : Nat) : Prop := ∃ k, k < m ∧ tn0 s m k = o
theorem tn_fl : ∀ m : Nat, m < 9 → 2 ≤ m → ∀ s : Nat, s < 256 → s < 2 ^ m → turnN s m < 2 ^ m ∧ ∀ i, i < m → flS (turnN s m) m i = flS s m (i + 1) := by decide +kernel
theorem bk_fl : ∀ m : Nat, m < 9 → 2 ≤ m → ∀ s : Nat, s < 256 → s < 2 ^ m → bk0 s m m < 2 ^ m ∧ ∀ i, i < m → flS (bk0 s m m) m i = flS s m (m - 1 - i) := by decide +kernel
def vl (s m : Nat) : Nat → Nat
  | 0 => 0
  | i + 1 => 2 * vl s m i + (flS s m i).toNat
theorem vl_fl : ∀ m : Nat, m < 9 → 2 ≤ m → ∀ s : Nat, s < 256 → s < 2 ^ m → vl s m m = s := by decide +kernel
theorem vl_c {s o m : Nat} (h : ∀ i, i < m → flS s m i = flS o m i) : ∀ k, k ≤ m → vl s m k = vl o m k
  | 0, _ => rfl
  | k + 1, hk => by
    simp only [vl]
    rw [vl_c h k (by omega), h k (by omega)]
theorem p2_le : ∀ m : Nat, m < 9 → 2 ^ m ≤ 256 := by decide +kernel
theorem fl_inj {s o m : Nat} (hm : 2 ≤ m ∧ m ≤ 8) (hs : s < 2 ^ m) (ho : o < 2 ^ m) (h : ∀ i, i < m → flS s m i = flS o m i) : s = o := by
  have hp := p2_le m (by omega)
  rw [← vl_fl m (by omega) hm.1 s (by omega) hs, ← vl_fl m (by omega) hm.1 o (by omega) ho]
  exact vl_c h m (Nat.le_refl _)
theorem fl_mod (s m i : Nat) : flS s m (i % m) = flS s m i := by unfold flS; rw [Nat.mod_mod]
theorem fl_c {s m i j : Nat} (h : i % m = j % m) : flS s m i = flS s m j := by rw [← fl_mod s m i, h, fl_mod]
theorem tn0_fl {s m : Nat} (hm : 2 ≤ m ∧ m ≤ 8) (hs : s < 2 ^ m) : ∀ k, tn0 s m k < 2 ^ m ∧ ∀ i, flS (tn0 s m k) m i = flS s m (i + k)
  | 0 => ⟨hs, fun _ => rfl⟩
  | k + 1 => by
    have hp := p2_le m (by omega)
    obtain ⟨h1, h2⟩ := tn0_fl hm hs k
    obtain ⟨h3, h4⟩ := tn_fl m (by omega) hm.1 (tn0 s m k) (by omega) h1
    refine ⟨h3, fun i => ?_⟩
    show flS (turnN (tn0 s m k) m) m i = _
    rw [← fl_mod, h4 _ (Nat.mod_lt _ (by omega)), h2]
    apply fl_c
    rw [Nat.add_assoc, Nat.mod_add_mod]
    congr 1
    omega
theorem dti_fl {s o m : Nat} (hm : 2 ≤ m ∧ m ≤ 8) (hs : s < 2 ^ m) (ho : o < 2 ^ m) : dtiP s o m ↔ ∃ k, k < m ∧ ∀ i, i < m → flS s m (i + k) = flS o m i := by
  constructor
  · rintro ⟨k, hk, e⟩
    refine ⟨k, hk, fun i _ => ?_⟩
    rw [← e, (tn0_fl hm hs k).2]
  · rintro ⟨k, hk, e⟩
    refine ⟨k, hk, fl_inj hm (tn0_fl hm hs k).1 ho (fun i hi => ?_)⟩
    rw [(tn0_fl hm hs k).2, e i hi]
theorem rv_mod : ∀ m : Nat, m < 9 → ∀ k, k < m → ∀ i, i < m → (m - 1 - (i + k) % m) % m = ((m - k) % m + m - 1 - i) % m := by decide +kernel
theorem rv_mod2 : ∀ m : Nat, m < 9 → ∀ k, k < m → (m - (m - k) % m) % m = k := by decide +kernel
theorem dtb_fl {s o m : Nat} (hm : 2 ≤ m ∧ m ≤ 8) (hs : s < 2 ^ m) (ho : o < 2 ^ m) : dtiP (bk0 s m m) o m ↔ ∃ k, k < m ∧ ∀ i, i < m → flS s m (k + m - 1 - i) = flS o m i := by
  have hp := p2_le m (by omega)
  obtain ⟨h1, h2⟩ := bk_fl m (by omega) hm.1 s (by omega) hs
  rw [dti_fl hm h1 ho]
  have key : ∀ k, k < m → ∀ i, i < m → flS (bk0 s m m) m (i + k) = flS s m ((m - k) % m + m - 1 - i) := by
    intro k hk i hi
    rw [← fl_mod, h2 _ (Nat.mod_lt _ (by omega))]
    exact fl_c (rv_mod m (by omega) k hk i hi)
  constructor
  · rintro ⟨k, hk, e⟩
    refine ⟨(m - k) % m, Nat.mod_lt _ (by omega), fun i hi => ?_⟩
    rw [← key k hk i hi, e i hi]
  · rintro ⟨k, hk, e⟩
    have hk2 : (m - k) % m < m := Nat.mod_lt _ (by omega)
    refine ⟨(m - k) % m, hk2, fun i hi => ?_⟩
    rw [key _ hk2 i hi, rv_mod2 m (by omega) k hk, e i hi]
theorem like_fl {s o m : Nat} : likeS s o m = true ↔ ∃ k, k < m ∧ ((∀ i, i < m → flS s m (i + k) = flS o m i) ∨ (∀ i, i < m → flS s m (k + m - 1 - i) = flS o m i)) := by
  unfold likeS
  rw [anyB_iff]
  constructor
  · rintro ⟨k, hk, h⟩
    refine ⟨k, hk, ?_⟩
    unfold likeAt at h
    rw [Bool.or_eq_true, allB_iff, allB_iff] at h
    rcases h with h | h
    · refine Or.inl (fun i hi => ?_)
      have := h i hi
      unfold likeF at this
      rw [Nat.add_comm]
      simpa using this
    · refine Or.inr (fun i hi => ?_)
      have := h i hi
      unfold likeR at this
      simpa using this
  · rintro ⟨k, hk, h⟩
    refine ⟨k, hk, ?_⟩
    unfold likeAt
    rw [Bool.or_eq_true, allB_iff, allB_iff]
    rcases h with h | h
    · refine Or.inl (fun i hi => ?_)
      unfold likeF
      rw [Nat.add_comm]
      simpa using h i hi
    · refine Or.inr (fun i hi => ?_)
      unfold likeR
      simpa using h i hi
theorem like_dti {s o m : Nat} (hm : 2 ≤ m ∧ m ≤ 8) (hs : s < 2 ^ m) (ho : o < 2 ^ m) : likeS s o m = true ↔ dtiP s o m ∨ dtiP (bk0 s m m) o m := by
  rw [like_fl, dti_fl hm hs ho, dtb_fl hm hs ho]
  constructor
  · rintro ⟨k, hk, h | h⟩
    · exact Or.inl ⟨k, hk, h⟩
    · exact Or.inr ⟨k, hk, h⟩
  · rintro (⟨k, hk, h⟩ | ⟨k, hk, h⟩)
    · exact ⟨k, hk, Or.inl h⟩
    · exact ⟨k, hk, Or.inr h⟩
theorem sy_mod : ∀ m : Nat, m < 9 → ∀ k, k < m → ∀ i, i < m → ((i + (m - k) % m) % m + k) % m = i := by decide +kernel
theorem sy_mod2 : ∀ m : Nat, m < 9 → ∀ k, k < m → ∀ i, i < m → (k + m - 1 - ((k + m - 1 - i) % m)) % m = i := by decide +kernel
theorem like_sym1 {s o m : Nat} (hm : 2 ≤ m ∧ m ≤ 8) (h : likeS s o m = true) : likeS o s m = true := by
  rw [like_fl] at h ⊢
  obtain ⟨k, hk, h | h⟩ := h
  · refine ⟨(m - k) % m, Nat.mod_lt _ (by omega), Or.inl (fun i hi => ?_)⟩
    rw [← fl_mod, ← h _ (Nat.mod_lt _ (by omega))]
    refine (fl_c ?_).trans (fl_mod s m i)
    rw [sy_mod m (by omega) k hk i hi, Nat.mod_mod, Nat.mod_eq_of_lt hi]
  · refine ⟨k, hk, Or.inr (fun i hi => ?_)⟩
    rw [← fl_mod, ← h _ (Nat.mod_lt _ (by omega))]
    refine (fl_c ?_).trans (fl_mod s m i)
    rw [sy_mod2 m (by omega) k hk i hi, Nat.mod_mod, Nat.mod_eq_of_lt hi]
theorem like_sym {s o m : Nat} (hm : 2 ≤ m ∧ m ≤ 8) : likeS s o m = true ↔ likeS o s m = true := ⟨like_sym1 hm, like_sym1 hm⟩
end Bt
section Tw2
variable {Γ : yG} {A : Nat → Nat} {T : Nat → Int → Int} {G : yH}
set_option maxHeartbeats 4000000
theorem m_turned {s m : Nat} (hs : s < 256) (hm : 2 ≤ m ∧ m ≤ 8) : Ct_X3_turned Γ 1 0 0 [.int (iI (s)), .int (iI (m))] (G) (fun v G' => v = some (.int (iI ((turnN s m : Nat)))) ∧ G' = G) noX := by
  refine y_start (lv0 := [some (.int (iI (s))), some (.int (iI (m)))]) (nm := "turned") (own := RX3) (by decide +kernel) rfl rfl (by exact Nat.le_of_ble_eq_true rfl) (by rfl) ?_
  intro Z Q E F
  refine y_iload_n E dX3_turned_0 (by rfl) ?_
  refine y_iconst E dX3_turned_1 ?_
  refine y_ishl E dX3_turned_2 (tb_shl1 s hs) ?_
  refine y_iload_n E dX3_turned_3 (by rfl) ?_
  refine y_iload_n E dX3_turned_4 (by rfl) ?_
  refine y_iconst E dX3_turned_5 ?_
  refine y_isub E dX3_turned_6 ?_
  refine y_top (v' := .int (iI ((m - 1 : Nat) : Int))) (by congr 2; omega) ?_
  refine y_ishr E dX3_turned_7 (iI_shr (m - 1) (by omega) (by omega) (by omega)) ?_
  refine y_top (v' := .int (iI ((s / 2 ^ (m - 1) : Nat) : Int))) (by rw [Int.natCast_ediv]) ?_
  refine y_ior E dX3_turned_8 (iI_or _ _) ?_
  refine y_iconst E dX3_turned_9 ?_
  refine y_iload_n E dX3_turned_10 (by rfl) ?_
  refine y_ishl E dX3_turned_11 (tb_1shl m (by omega)) ?_
  refine y_iconst E dX3_turned_12 ?_
  refine y_isub E dX3_turned_13 ?_
  refine y_iand E dX3_turned_14 (iI_and_low _ m (tb_mask m (by omega)) (by omega)) ?_
  refine y_ireturn E F rfl rfl dX3_turned_15 (by omega) (by omega) ⟨(rI (by rfl)), rfl⟩
theorem m_backward {s m : Nat} (hs : s < 256) (hm : 2 ≤ m ∧ m ≤ 8) : Ct_X3_backward Γ 1 0 0 [.int (iI (s)), .int (iI (m))] (G) (fun v G' => v = some (.int (iI ((bk0 s m m : Nat)))) ∧ G' = G) noX := by
  refine y_start (lv0 := [some (.int (iI (s))), some (.int (iI (m))), none, none]) (nm := "backward") (own := RX3) (by decide +kernel) rfl rfl (by exact Nat.le_of_ble_eq_true rfl) (by rfl) ?_
  intro Z Q E F
  have loop : ∀ k : Nat, ∀ b : Nat, k ≤ m → b = bk0 s m k → Y Γ Z 0 0 Q G 4 [some (.int (iI s)), some (.int (iI m)), some (.int (iI b)), some (.int (iI k))] [] := by
    refine loopDownN m ?_
    intro k ih b h0 hb
    refine y_iload_n E dX3_backward_4 (by rfl) ?_
    refine y_iload_n E dX3_backward_5 (by rfl) ?_
    refine y_icmp_ge (tgt := 29) E dX3_backward_6 (by decide) (by omega) (by omega) (fun h6 => ?_) (fun h6 => ?_)
    · refine y_iload_n E dX3_backward_29 (by rfl) ?_
      refine y_ireturn E F rfl rfl dX3_backward_30 (by omega) (by omega) ⟨(rI (by rw [hb, show k = m by omega])), rfl⟩
    · refine y_iload_n E dX3_backward_9 (by rfl) ?_
      refine y_iload_n E dX3_backward_10 (by rfl) ?_
      refine y_iload_n E dX3_backward_11 (by rfl) ?_
      refine y_ishr E dX3_backward_12 (iI_shr k (by omega) (by omega) (by omega)) ?_
      refine y_top (v' := .int (iI ((s / 2 ^ k : Nat) : Int))) (by rw [Int.natCast_ediv]) ?_
      refine y_iconst E dX3_backward_13 ?_
      refine y_iand E dX3_backward_14 (iI_and_low _ 1 (by decide) (by decide)) ?_
      refine y_iload_n E dX3_backward_15 (by rfl) ?_
      refine y_iconst E dX3_backward_16 ?_
      refine y_isub E dX3_backward_17 ?_
      refine y_iload_n E dX3_backward_18 (by rfl) ?_
      refine y_isub E dX3_backward_19 ?_
      refine y_top (v' := .int (iI ((m - 1 - k : Nat) : Int))) (by congr 2; omega) ?_
      refine y_ishl E dX3_backward_20 (tb_bshl _ (Nat.mod_lt _ (by decide)) (m - 1 - k) (by omega)) ?_
      refine y_ior E dX3_backward_21 (iI_or _ _) ?_
      refine y_istore_n (j := 2) E dX3_backward_22 rfl (Nat.le_of_ble_eq_true rfl) ?_
      refine y_iinc E dX3_backward_23 (by rfl) ?_
      refine y_goto (tgt := 4) E dX3_backward_26 (by decide) ?_
      exact ih (by omega) _ (by omega) (by rw [hb]; rfl)
  refine y_iconst E dX3_backward_0 ?_
  refine y_istore_n (j := 2) E dX3_backward_1 rfl (Nat.le_of_ble_eq_true rfl) ?_
  refine y_iconst E dX3_backward_2 ?_
  refine y_istore_n (j := 3) E dX3_backward_3 rfl (Nat.le_of_ble_eq_true rfl) ?_
  exact loop 0 0 (by omega) rfl
theorem m_doesTurnInto {s o m : Nat} (hs : s < 2 ^ m) (ho : o < 256) (hm : 2 ≤ m ∧ m ≤ 8) : Ct_X3_doesTurnInto Γ 2 0 0 [.int (iI (s)), .int (iI (o)), .int (iI (m))] (G) (fun v G' => v = some (.int (iI (b2i (dB (dtiP s o m))))) ∧ G' = G) noX := by
  refine y_start (lv0 := [some (.int (iI (s))), some (.int (iI (o))), some (.int (iI (m))), none, none]) (nm := "doesTurnInto") (own := RX3) (by decide +kernel) rfl rfl (by exact Nat.le_of_ble_eq_true rfl) (by rfl) ?_
  intro Z Q E F
  have hp := p2_le m (by omega)
  have loop : ∀ k : Nat, ∀ x : Nat, k ≤ m → x = tn0 s m k → (∀ j, j < k → tn0 s m j ≠ o) → Y Γ Z 0 0 Q G 5 [some (.int (iI s)), some (.int (iI o)), some (.int (iI m)), some (.int (iI x)), some (.int (iI k))] [] := by
    refine loopDownN m ?_
    intro k ih x h0 hx hj
    have hx2 := (tn0_fl hm hs k).1
    rw [← hx] at hx2
    refine y_iload E dX3_doesTurnInto_5 (by rfl) ?_
    refine y_iload_n E dX3_doesTurnInto_7 (by rfl) ?_
    refine y_icmp_ge (tgt := 30) E dX3_doesTurnInto_8 (by decide) (by omega) (by omega) (fun h8 => ?_) (fun h8 => ?_)
    · refine y_iconst E dX3_doesTurnInto_30 ?_
      refine y_ireturn E F rfl rfl dX3_doesTurnInto_31 (by omega) (by omega) ⟨rF (by rintro ⟨j, h1, h2⟩; exact hj j (by omega) h2), rfl⟩
    · refine y_iload_n E dX3_doesTurnInto_11 (by rfl) ?_
      refine y_iload_n E dX3_doesTurnInto_12 (by rfl) ?_
      refine y_icmp_ne (tgt := 18) E dX3_doesTurnInto_13 (by decide) (by omega) (by omega) (fun h13 => ?_) (fun h13 => ?_)
      · refine y_iload_n E dX3_doesTurnInto_18 (by rfl) ?_
        refine y_iload_n E dX3_doesTurnInto_19 (by rfl) ?_
        refine y_callS E dX3_doesTurnInto_20 lk_X3_97 (m_turned ?_ ?_) (by rfl) (by decide) (by omega) (by omega) rfl (Nat.le_of_ble_eq_true rfl) ?_ (fun _ _ _ h => h.elim)
        · omega
        · omega
        rintro _ _ ⟨rfl, rfl⟩
        refine y_istore_n (j := 3) E dX3_doesTurnInto_23 rfl (Nat.le_of_ble_eq_true rfl) ?_
        refine y_iinc E dX3_doesTurnInto_24 (by rfl) ?_
        refine y_goto (tgt := 5) E dX3_doesTurnInto_27 (by decide) ?_
        exact ih (by omega) _ (by omega) (by rw [hx]; rfl) (fun j h => by by_cases e : j = k; (subst e; rw [← hx]; omega); exact hj j (by omega))
      · refine y_iconst E dX3_doesTurnInto_16 ?_
        refine y_ireturn E F rfl rfl dX3_doesTurnInto_17 (by omega) (by omega) ⟨rT ⟨k, by omega, by omega⟩, rfl⟩
  refine y_iload_n E dX3_doesTurnInto_0 (by rfl) ?_
  refine y_istore_n (j := 3) E dX3_doesTurnInto_1 rfl (Nat.le_of_ble_eq_true rfl) ?_
  refine y_iconst E dX3_doesTurnInto_2 ?_
  refine y_istore E dX3_doesTurnInto_3 (Nat.le_of_ble_eq_true rfl) ?_
  exact loop 0 s (by omega) rfl (fun j h => by omega)
/-- bits of a set of signs -/
theorem tb_bits : ∀ x : Nat, x < 256 → ∀ k : Nat, k < 8 → iI (x : Int) >>> (iI (k : Int) &&& 31) &&& 1 = iI ((x / 2 ^ k % 2 : Nat) : Int) := by decide +kernel
def pb0 (x : Nat) : Nat → Nat
  | 0 => 0
  | k + 1 => pb0 x k + x / 2 ^ k % 2
theorem pb_pop : ∀ x : Nat, x < 256 → pb0 x 8 = popT 8 x := by decide +kernel
/-- how many signs are flashes -/
noncomputable def popS (x : Nat) : Nat := opq 14 (popT 8) x
theorem popS_e (x : Nat) : popS x = popT 8 x := by unfold popS; rw [opq_eq]
theorem m_bits {x : Nat} (hx : x < 256) : Ct_X3_bits Γ 1 0 0 [.int (iI (x))] (G) (fun v G' => v = some (.int (iI ((popS x : Nat)))) ∧ G' = G) noX := by
  refine y_start (lv0 := [some (.int (iI (x))), none, none]) (nm := "bits") (own := RX3) (by decide +kernel) rfl rfl (by exact Nat.le_of_ble_eq_true rfl) (by rfl) ?_
  intro Z Q E F
  have loop : ∀ k : Nat, ∀ b : Nat, k ≤ 8 → b = pb0 x k → Y Γ Z 0 0 Q G 4 [some (.int (iI x)), some (.int (iI b)), some (.int (iI k))] [] := by
    refine loopDownN 8 ?_
    intro k ih b h0 hb
    refine y_iload_n E dX3_bits_4 (by rfl) ?_
    refine y_bipush E dX3_bits_5 (by decide) ?_
    refine y_icmp_ge (tgt := 24) E dX3_bits_7 (by decide) (by omega) (by omega) (fun h7 => ?_) (fun h7 => ?_)
    · refine y_iload_n E dX3_bits_24 (by rfl) ?_
      refine y_ireturn E F rfl rfl dX3_bits_25 (by omega) (by omega) ⟨(rI (by rw [hb, show k = 8 by omega, pb_pop x hx, popS_e])), rfl⟩
    · refine y_iload_n E dX3_bits_10 (by rfl) ?_
      refine y_iload_n E dX3_bits_11 (by rfl) ?_
      refine y_iload_n E dX3_bits_12 (by rfl) ?_
      refine y_ishr E dX3_bits_13 (iI_shr k (by omega) (by omega) (by omega)) ?_
      refine y_top (v' := .int (iI ((x / 2 ^ k : Nat) : Int))) (by rw [Int.natCast_ediv]) ?_
      refine y_iconst E dX3_bits_14 ?_
      refine y_iand E dX3_bits_15 (iI_and_low _ 1 (by decide) (by decide)) ?_
      refine y_iadd E dX3_bits_16 ?_
      refine y_istore_n (j := 1) E dX3_bits_17 rfl (Nat.le_of_ble_eq_true rfl) ?_
      refine y_iinc E dX3_bits_18 (by rfl) ?_
      refine y_goto (tgt := 4) E dX3_bits_21 (by decide) ?_
      exact ih (by omega) _ (by omega) (by rw [hb]; rfl)
  refine y_iconst E dX3_bits_0 ?_
  refine y_istore_n (j := 1) E dX3_bits_1 rfl (Nat.le_of_ble_eq_true rfl) ?_
  refine y_iconst E dX3_bits_2 ?_
  refine y_istore_n (j := 2) E dX3_bits_3 rfl (Nat.le_of_ble_eq_true rfl) ?_
  exact loop 0 0 (by omega) rfl
end Tw2
