/-! ===== wide constants, unsigned shifts, counting of bits ===== -/
section Num2
/-- a function whose text nobody unfolds -/
noncomputable def opq {α : Type} (k : Nat) (a : α) : α := Classical.choose (p := fun w => k = k ∧ w = a) ⟨a, rfl, rfl⟩
theorem opq_eq {α : Type} (k : Nat) (a : α) : opq k a = a := (Classical.choose_spec (p := fun w => k = k ∧ w = a) ⟨a, rfl, rfl⟩).2
theorem iI_ushr {n : Int} (s : Nat) (h0 : 0 ≤ n) (h : n < 4294967296) (hs : s < 32) : ((iI n).toUInt32 >>> ((iI (s : Int)).toUInt32 &&& Int32.toUInt32 31)).toInt32 = iI (n / (2 ^ s : Nat)) := by
  have e : iI n = nI n.toNat := by rw [iI_nI]; congr 1; omega
  have hk : ∀ s, s < 32 → (((iI ((s : Nat) : Int)).toUInt32 &&& Int32.toUInt32 31).toBitVec % 32).toNat = s := by decide +kernel
  rw [e, pk_ushrN (by omega) _ s (hk s hs), iI_nI]
  congr 1
  rw [Int.natCast_ediv]
  congr 1
  omega
theorem lN_ushr {n : Nat} (k : Nat) (hn : n < 2 ^ 64) (hk : k < 64) : ((lN n).toUInt64 >>> ((iI (k : Int)).toInt64.toUInt64 &&& Int64.toUInt64 63)).toInt64 = lN (n / 2 ^ k) := by
  rw [← iI_nI]
  exact wb_shr hn hk
theorem lN_l2i (n : Nat) : (lN n).toInt32 = iI n := by
  rw [← iI_nI]
  apply Int32.toBitVec_inj.mp
  rw [Int64.toBitVec_toInt32]
  show (BitVec.ofNat 64 n).signExtend 32 = BitVec.ofNat 32 n
  rw [BitVec.signExtend_eq_setWidth_of_le _ (by decide)]
  apply BitVec.eq_of_toNat_eq
  simp
end Num2
section LdcW
variable {Γ : yG} {Z : yZ} {own : String} {cc : ByteArray} {ret : Option FieldType} {hh : List (Nat × Nat × Nat × Nat)} {L mc ms : Nat} {nm : String} {k n : Nat} {Q : State → Prop} {G : yH} {pc : Nat} {lv : List (Option Value)} {st : List Value}
theorem y_ldcw (E : YE Γ Z own cc ret hh L mc ms nm) {i : Nat} {v : Int32} (hq : Jvm.Cond.constant own i v ∈ lw_all) (hd : decode cc pc = .ok (.ldc_w i, 3)) (K : Y Γ Z k n Q G (pc + 3) lv (.int v :: st)) : Y Γ Z k n Q G pc lv st := fun H locs ls a b c T hT X => by
  obtain ⟨k9, cf, bytes, hk, hcf, hcp, hb⟩ := Cond.constant_spec E.o (E.w _ hq)
  obtain ⟨k', hk', he⟩ := X.warmed.alike.2.2 _ _ hk
  obtain ⟨t, a1, b1⟩ := K H locs ls a b c T hT X
  refine ⟨t, ?_, b1⟩
  have hd' : decode (zc Z).code (F0 (zm Z) pc ls st).pc = .ok (.ldc_w i, 3) := by rw [E.c]; exact hd
  jvm_step X.here [E.x, hd', ldc_w.wp_int (s := T) (f := F0 (zm Z) pc ls st) X.here.top hk' (by rw [he]; exact hcf) hcp, hb]
  exact a1
theorem y_ldcwf (E : YE Γ Z own cc ret hh L mc ms nm) {i : Nat} {v : UInt32} (hq : Jvm.Cond.constantFloat own i v ∈ lw_all) (hd : decode cc pc = .ok (.ldc_w i, 3)) (K : Y Γ Z k n Q G (pc + 3) lv (.float v :: st)) : Y Γ Z k n Q G pc lv st := fun H locs ls a b c T hT X => by
  obtain ⟨k9, cf, hk, hcf, hcp⟩ := Cond.constantFloat_spec E.o (E.w _ hq)
  obtain ⟨k', hk', he⟩ := X.warmed.alike.2.2 _ _ hk
  obtain ⟨t, a1, b1⟩ := K H locs ls a b c T hT X
  refine ⟨t, ?_, b1⟩
  have hd' : decode (zc Z).code (F0 (zm Z) pc ls st).pc = .ok (.ldc_w i, 3) := by rw [E.c]; exact hd
  jvm_step X.here [E.x, hd', ldc_w.wp_float (s := T) (f := F0 (zm Z) pc ls st) X.here.top hk' (by rw [he]; exact hcf) hcp]
  exact a1
end LdcW
