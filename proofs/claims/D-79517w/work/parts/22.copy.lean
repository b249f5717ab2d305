/-! ===== System.arraycopy, getClass, class constants ===== -/
section CP
variable {Γ : yG} {Z : yZ} {own : String} {cc : ByteArray} {ret : Option FieldType} {hh : List (Nat × Nat × Nat × Nat)} {L mc ms : Nat} {nm : String} {k n : Nat} {Q : State → Prop} {G : yH} {pc : Nat} {lv : List (Option Value)} {st : List Value}
def cpI (f g : Int → Int) (sp dp m : Int) : Int → Int := fun j => if dp ≤ j ∧ j < dp + m then f (sp + (j - dp)) else g j
def cpN {α : Type} (f g : Nat → α) (sp dp m : Nat) : Nat → α := fun j => if dp ≤ j ∧ j < dp + m then f (sp + (j - dp)) else g j
def LCp (own : String) (index : Nat) : Prop := Cond.methodLink own index arraycopyName ∈ lw_all ∧ Cond.native arraycopyName ∈ lw_all ∧ Cond.static arraycopyName ∈ lw_all ∧ Cond.initialized "java/lang/System" ∈ lw_all
theorem iI_toI {z : Int} (h0 : 0 ≤ z) (h : z ≤ 2147483647) : (iI z).toInt = ((iI z).toNatClampNeg : Int) := by
  rw [iI_clamp h0 h, iI_toInt ⟨by omega, h⟩]
  omega
set_option maxHeartbeats 1000000 in
theorem y_copyI (E : YE Γ Z own cc ret hh L mc ms nm) {index a0 a : Nat} {t0 : yT} {t : Nat × Nat} {kd n0 n1 : Nat} {f g : Int → Int} {sp dp m : Int} (hd : decode cc pc = .ok (.invokestatic index, 3)) (hW : LCp own index) (hkd : kd < 7) (hprim : refKind (gAty kd) = false) (h0 : G a0 = some (t0, aI kd n0 f)) (h1 : G a = some (some t, aI kd n1 g)) (hs : 0 ≤ sp ∧ 0 ≤ dp ∧ 0 ≤ m ∧ sp + m ≤ (n0 : Int) ∧ dp + m ≤ (n1 : Int) ∧ sp ≤ 60000 ∧ dp ≤ 60000 ∧ m ≤ 60000) (hfit : ∀ i : Int, 0 ≤ i → i < m → fits (gAty kd) (.int (iI (f (sp + i)))) = true) (hL : 0 < L) (hcat : (st.map fun v => v.category).sum ≤ 8) (K : Y Γ Z k n Q (gset G a (some t, aI kd n1 (cpI f g sp dp m))) (pc + 3) lv st) : Y Γ Z k n Q G pc lv (.int (iI m) :: .int (iI dp) :: .ref a :: .int (iI sp) :: .ref a0 :: st) := by
  obtain ⟨w1, w2, w3, w4⟩ := hW
  intro H locs ls hG hS hLs T hT X
  obtain ⟨hN0, hat0⟩ := hG.2.2 a0 _ h0
  obtain ⟨hN1, hat1⟩ := hG.2.2 a _ h1
  have hc0 : H[a0]? = some (vp_cell (ydA Γ kd) (n0, .inl (fun j : Nat => iI (f (j : Int))))) := hat0
  have hc1 : H[a]? = some (vp_cell (ydA Γ kd) (n1, .inl (fun j : Nat => iI (g (j : Int))))) := hat1
  obtain ⟨-, k0, hk0, cm0, hkk0⟩ := (E.K.2 kd _ (yTys_at Γ hkd)).1 n0 (fun j : Nat => .int (iI (f (j : Int))))
  obtain ⟨-, k1, hk1, cm1, hkk1⟩ := (E.K.2 kd _ (yTys_at Γ hkd)).1 n1 (fun j : Nat => .int (iI (g (j : Int))))
  have c1 := iI_clamp hs.1 (show sp ≤ 2147483647 by omega)
  have c2 := iI_clamp hs.2.1 (show dp ≤ 2147483647 by omega)
  have c3 := iI_clamp hs.2.2.1 (show m ≤ 2147483647 by omega)
  have hh4 : (iI sp).toNatClampNeg + (iI m).toNatClampNeg ≤ n0 := by rw [c1, c3]; omega
  obtain ⟨vm', X', step⟩ := X.arraycopy E.x E.o (E.w _ w1) (E.w _ w2) (E.w _ w3) (E.w _ w4) (src := a0) (dst := a) (cs := vp_cell (ydA Γ kd) (n0, .inl (fun j : Nat => iI (f (j : Int))))) (cd := vp_cell (ydA Γ kd) (n1, .inl (fun j : Nat => iI (g (j : Int))))) (srcPos := iI sp) (destPos := iI dp) (n := iI m) (by rw [hT]; exact hc0) (by rw [hT]; exact hc1)
    (fun _ h => by cases h) (fun _ h => by cases h) (fun h => by cases h) (fun h => by cases h) hk0 hk1 hkk0 hkk1 (by simp [hprim]) (iI_nneg hs.1 (by omega)) (iI_nneg hs.2.1 (by omega)) (iI_nneg hs.2.2.1 (by omega))
    (by rw [iI_toI hs.1 (by omega), iI_toI hs.2.2.1 (by omega), c1, c3]; show ¬ _ > ((arrV _ n0 _).slots.size : Int); rw [arrV_size]; omega)
    (by rw [iI_toI hs.2.1 (by omega), iI_toI hs.2.2.1 (by omega), c2, c3]; show ¬ _ > ((arrV _ n1 _).slots.size : Int); rw [arrV_size]; omega)
    (fun vm₁ _ i hi => by
      have e : (vp_cell (ydA Γ kd) (n0, .inl (fun j : Nat => iI (f (j : Int))))).slots.getD ((iI sp).toNatClampNeg + i) .null = .int (iI (f (sp + i))) := by
        show (arrV _ n0 (fun j : Nat => .int (iI (f (j : Int))))).slots.getD _ _ = _
        rw [Array.getD_eq_getD_getElem?, arrV_read _ _ (by omega)]
        show Value.int (iI (f _)) = _
        rw [c1]
        congr 3
        omega
      refine ⟨?_, ?_⟩
      · rw [e]
        exact hfit i (by omega) (by rw [c3] at hi; omega)
      · rw [e]
        exact trivial)
    (g := F0 (zm Z) pc ls (.int (iI m) :: .int (iI dp) :: .ref a :: .int (iI sp) :: .ref a0 :: st)) rfl (by rw [hLs.2.1]) (rest := st) rfl (by rw [E.c]; exact hd) (by rw [E.rf]; omega) (by rw [E.rl]; have hw : nativeFrameWords "java/lang/System" "arraycopy" 5 ≤ 20 := (by decide); show 2 * 0 + _ + _ ≤ _; omega)
  have e1 : copied (vp_cell (ydA Γ kd) (n0, .inl (fun j : Nat => iI (f (j : Int))))) (vp_cell (ydA Γ kd) (n1, .inl (fun j : Nat => iI (g (j : Int))))) (iI sp) (iI dp) (iI m) = vp_cell (ydA Γ kd) (n1, .inl (fun j : Nat => iI (cpI f g sp dp m (j : Int)))) := by
    refine (va_copied (fun z => .int z) (ydA Γ kd) (ydA Γ kd) (fun j : Nat => iI (f (j : Int))) (fun j : Nat => iI (g (j : Int))) hh4).trans ?_
    rw [vp_cell_i]
    congr 1
    funext j
    rw [c1, c2, c3]
    unfold va_cpy cpI
    by_cases hj : dp ≤ (j : Int) ∧ (j : Int) < dp + m
    · rw [if_pos (show dp.toNat ≤ j ∧ j < dp.toNat + m.toNat by omega), if_pos hj]
      exact congrArg (fun z => Value.int (iI (f z))) (show ((sp.toNat + (j - dp.toNat) : Nat) : Int) = sp + ((j : Int) - dp) by omega)
    · rw [if_neg (show ¬ (dp.toNat ≤ j ∧ j < dp.toNat + m.toNat) by omega), if_neg hj]
  rw [e1] at X' step
  have hl : a < H.size := (Array.getElem?_eq_some_iff.mp hc1).1
  generalize hce : vp_cell (ydA Γ kd) (n1, .inl (fun j : Nat => iI (cpI f g sp dp m (j : Int)))) = ce at X' step
  have hheap : ((T.setVm vm').setCell a ce).heap = H.setIfInBounds a ce := by rw [← hT]; rfl
  have oq : ∀ q : Nat, q ≠ a → (H.setIfInBounds a ce)[q]? = H[q]? := fun q hq => by simp [Array.getElem?_setIfInBounds, Ne.symm hq]
  obtain ⟨t', a1, b1⟩ := K _ _ ls (gR_put hG h1 (by simp) (by simp) oq (show (H.setIfInBounds a ce)[a]? = some _ by rw [← hce]; simp [Array.getElem?_setIfInBounds, hl, yV, aI])) ⟨by simp; exact hS.1, fun q g1 g2 => by
      rw [oq q (fun e => g2 (by rw [e]; exact hN1 (by simp)))]
      exact hS.2.1 q g1 g2, fun q hq => by
      rcases List.mem_append.mp hq with h | h
      · exact hS.2.2 q h
      · obtain ⟨z, -, hz⟩ := List.mem_map.mp h
        rw [← hz]
        exact hN1 (by simp)⟩ hLs _ hheap X'
  exact ⟨t', step t' a1, b1⟩
set_option maxHeartbeats 1000000 in
/-- references: from one array of objects to another of the same kind -/
theorem y_copyR (E : YE Γ Z own cc ret hh L mc ms nm) {index a0 a : Nat} {t0 : yT} {t : Nat × Nat} {n0 n1 : Nat} {f g : Nat → Option Nat} {sp dp m : Int} (hd : decode cc pc = .ok (.invokestatic index, 3)) (hW : LCp own index) (h0 : G a0 = some (t0, aR 5 n0 f)) (h1 : G a = some (some t, aR 5 n1 g)) (hs : 0 ≤ sp ∧ 0 ≤ dp ∧ 0 ≤ m ∧ sp + m ≤ (n0 : Int) ∧ dp + m ≤ (n1 : Int) ∧ sp ≤ 60000 ∧ dp ≤ 60000 ∧ m ≤ 60000) (hel : ∀ i : Nat, (i : Int) < m → okR G "java/lang/Object" (f (sp.toNat + i))) (hL : 0 < L) (hcat : (st.map fun v => v.category).sum ≤ 8) (K : Y Γ Z k n Q (gset G a (some t, aR 5 n1 (cpN f g sp.toNat dp.toNat m.toNat))) (pc + 3) lv st) : Y Γ Z k n Q G pc lv (.int (iI m) :: .int (iI dp) :: .ref a :: .int (iI sp) :: .ref a0 :: st) := by
  obtain ⟨w1, w2, w3, w4⟩ := hW
  intro H locs ls hG hS hLs T hT X
  obtain ⟨hN0, hat0⟩ := hG.2.2 a0 _ h0
  obtain ⟨hN1, hat1⟩ := hG.2.2 a _ h1
  have hc0 : H[a0]? = some (vp_cell (ydA Γ 5) (n0, .inr (.inr (.inr (.inr f))))) := hat0
  have hc1 : H[a]? = some (vp_cell (ydA Γ 5) (n1, .inr (.inr (.inr (.inr g))))) := hat1
  have hty : (yTys Γ)[5]? = some (ydA Γ 5, .object "java/lang/Object") := yTys_at Γ (by decide)
  obtain ⟨-, k0, hk0, cm0, hkk0⟩ := (E.K.2 5 _ hty).1 n0 (fun j => va_rf (f j))
  obtain ⟨-, k1, hk1, cm1, hkk1⟩ := (E.K.2 5 _ hty).1 n1 (fun j => va_rf (g j))
  have c1 := iI_clamp hs.1 (show sp ≤ 2147483647 by omega)
  have c2 := iI_clamp hs.2.1 (show dp ≤ 2147483647 by omega)
  have c3 := iI_clamp hs.2.2.1 (show m ≤ 2147483647 by omega)
  have hh4 : (iI sp).toNatClampNeg + (iI m).toNatClampNeg ≤ n0 := by rw [c1, c3]; omega
  obtain ⟨vm', X', step⟩ := X.arraycopy E.x E.o (E.w _ w1) (E.w _ w2) (E.w _ w3) (E.w _ w4) (src := a0) (dst := a) (cs := vp_cell (ydA Γ 5) (n0, .inr (.inr (.inr (.inr f))))) (cd := vp_cell (ydA Γ 5) (n1, .inr (.inr (.inr (.inr g))))) (srcPos := iI sp) (destPos := iI dp) (n := iI m) (by rw [hT]; exact hc0) (by rw [hT]; exact hc1)
    (fun _ h => by cases h) (fun _ h => by cases h) (fun h => by cases h) (fun h => by cases h) hk0 hk1 hkk0 hkk1 rfl (iI_nneg hs.1 (by omega)) (iI_nneg hs.2.1 (by omega)) (iI_nneg hs.2.2.1 (by omega))
    (by rw [iI_toI hs.1 (by omega), iI_toI hs.2.2.1 (by omega), c1, c3]; show ¬ _ > ((arrV _ n0 _).slots.size : Int); rw [arrV_size]; omega)
    (by rw [iI_toI hs.2.1 (by omega), iI_toI hs.2.2.1 (by omega), c2, c3]; show ¬ _ > ((arrV _ n1 _).slots.size : Int); rw [arrV_size]; omega)
    (fun vm₁ hal i hi => by
      have e : (vp_cell (ydA Γ 5) (n0, .inr (.inr (.inr (.inr f))))).slots.getD ((iI sp).toNatClampNeg + i) .null = va_rf (f (sp.toNat + i)) := by
        show (arrV _ n0 (fun j => va_rf (f j))).slots.getD _ _ = _
        rw [Array.getD_eq_getD_getElem?, arrV_read _ _ (by omega), c1]
        rfl
      rw [e]
      have hok := hel i (by rw [c3] at hi; omega)
      cases hy : f (sp.toNat + i) with
      | none => exact ⟨rfl, trivial⟩
      | some y =>
        obtain ⟨t', ci, fs, q, g0, g1, g2⟩ := hok y hy
        obtain ⟨cellV, g3, g4, g5⟩ := va_recv (q0 := 0) E.K (va_P_1 (hG.2.2 y _ g0).2) g1 rfl
        obtain ⟨kC, hkC, -⟩ := Vm.findClass_spec g5
        obtain ⟨kA, comp, r1, r2, r3, -⟩ := (E.K.2 5 _ hty).2
        have e5 := hk1.symm.trans r1
        cases e5
        have e6 : cm1 = comp := by have e7 := hkk1.symm.trans r2; cases e7; rfl
        subst e6
        obtain ⟨kE, hkE, -⟩ := Vm.findClass_spec r3
        obtain ⟨kC', hkC', -⟩ := hal.2.2 _ _ hkC
        obtain ⟨kE', hkE', -⟩ := hal.2.2 _ _ hkE
        refine ⟨rfl, cellV, (show T.heap[y]? = some cellV by rw [hT]; exact g3), (fun q h => by rw [h] at g4; cases g4), ⟨kC', hkC'⟩, ?_, ?_⟩
        · exact ⟨kE', hkE'⟩
        · show vm₁.assignable _ _ = true
          rw [hal.assignable]
          rcases g2 with g2 | g2
          · have h9 := (E.K.1 ci q g1).2
            rw [g2] at h9
            have h8 := g5
            rw [g2] at h8
            have e3 : cm1 = cellV.cls := Option.some.inj (r3.symm.trans h8)
            have e4 : (yD Γ).1 ci = cellV.cls := Option.some.inj (h9.1.symm.trans h8)
            rw [e3, ← e4]
            exact va_assign h9
          · have h9 := va_Nw.use (A := za Z) rfl (E.kk.2.2.1 _ g2 rfl)
            obtain ⟨c0, t0, f1, f2, f3⟩ := Cond.castable_spec h9
            cases r3.symm.trans f2
            cases g5.symm.trans f1
            exact f3)
    (g := F0 (zm Z) pc ls (.int (iI m) :: .int (iI dp) :: .ref a :: .int (iI sp) :: .ref a0 :: st)) rfl (by rw [hLs.2.1]) (rest := st) rfl (by rw [E.c]; exact hd) (by rw [E.rf]; omega) (by rw [E.rl]; have hw : nativeFrameWords "java/lang/System" "arraycopy" 5 ≤ 20 := (by decide); show 2 * 0 + _ + _ ≤ _; omega)
  have e1 : copied (vp_cell (ydA Γ 5) (n0, .inr (.inr (.inr (.inr f))))) (vp_cell (ydA Γ 5) (n1, .inr (.inr (.inr (.inr g))))) (iI sp) (iI dp) (iI m) = vp_cell (ydA Γ 5) (n1, .inr (.inr (.inr (.inr (cpN f g sp.toNat dp.toNat m.toNat))))) := by
    rw [vp_cell_q, vp_cell_q, vp_cell_q]
    refine (va_copied (fun z => va_rf z) (ydA Γ 5) (ydA Γ 5) f g hh4).trans ?_
    rw [c1, c2, c3]
    rfl
  rw [e1] at X' step
  have hl : a < H.size := (Array.getElem?_eq_some_iff.mp hc1).1
  generalize hce : vp_cell (ydA Γ 5) (n1, .inr (.inr (.inr (.inr (cpN f g sp.toNat dp.toNat m.toNat))))) = ce at X' step
  have hheap : ((T.setVm vm').setCell a ce).heap = H.setIfInBounds a ce := by rw [← hT]; rfl
  have oq : ∀ q : Nat, q ≠ a → (H.setIfInBounds a ce)[q]? = H[q]? := fun q hq => by simp [Array.getElem?_setIfInBounds, Ne.symm hq]
  obtain ⟨t', a1, b1⟩ := K _ _ ls (gR_put hG h1 (by simp) (by simp) oq (show (H.setIfInBounds a ce)[a]? = some _ by rw [← hce]; simp [Array.getElem?_setIfInBounds, hl, yV, aR])) ⟨by simp; exact hS.1, fun q g1 g2 => by
      rw [oq q (fun e => g2 (by rw [e]; exact hN1 (by simp)))]
      exact hS.2.1 q g1 g2, fun q hq => by
      rcases List.mem_append.mp hq with h | h
      · exact hS.2.2 q h
      · obtain ⟨z, -, hz⟩ := List.mem_map.mp h
        rw [← hz]
        exact hN1 (by simp)⟩ hLs _ hheap X'
  exact ⟨t', step t' a1, b1⟩
/-- getClass() of an array of objects -/
theorem y_getC (E : YE Γ Z own cc ret hh L mc ms nm) {index a N : Nat} {f : Nat → Option Nat} {t : yT} (hd : decode cc pc = .ok (.invokevirtual index, 3)) (w1 : Cond.methodLink own index ⟨"java/lang/Object", "getClass", "()Ljava/lang/Class;"⟩ ∈ lw_all) (w2 : Cond.declares ⟨"java/lang/Object", "getClass", "()Ljava/lang/Class;"⟩ ∈ lw_tbl) (w3 : Cond.selects "[Ljava/lang/Object;" ⟨"java/lang/Object", "getClass", "()Ljava/lang/Class;"⟩ ⟨"java/lang/Object", "getClass", "()Ljava/lang/Class;"⟩ ∈ lw_all) (w4 : Cond.instanceMethod ⟨"java/lang/Object", "getClass", "()Ljava/lang/Class;"⟩ ∈ lw_all) (w5 : Cond.native ⟨"java/lang/Object", "getClass", "()Ljava/lang/Class;"⟩ ∈ lw_all) (hG : G a = some (t, aR 5 N f)) (hL : 0 < L) (hcat : (st.map fun v => v.category).sum ≤ 8) (K : Y Γ Z k n Q G (pc + 3) lv (.ref (yad Γ 5) :: st)) : Y Γ Z k n Q G pc lv (.ref a :: st) := by
  intro H locs ls a1 b c
  have hty : (yTys Γ)[5]? = some (ydA Γ 5, .object "java/lang/Object") := yTys_at Γ (by decide)
  have hat : H[a]? = some (vp_cell (ydA Γ 5) (N, .inr (.inr (.inr (.inr f))))) := (a1.2.2 a _ hG).2
  exact va_getC E.x E.c c.2.1.symm E.o (E.w _ w1) (va_Nw.use rfl (E.kk.2.2.1 _ w2 rfl)) (E.w _ w3) (E.w _ w4) (E.w _ w5) E.kk.2.2.2.2.2.2.2.2.2.2.2.2.2.2.2.2.2.1 ⟨_, hat, rfl, va_nmO (E.K.2 5 _ hty).2 (by decide)⟩ (by rw [E.rf]; omega) (by rw [E.rl]; omega) hd (K H locs ls a1 b c)
theorem y_ldcM (E : YE Γ Z own cc ret hh L mc ms nm) {index : Nat} (hd : decode cc pc = .ok (.ldc index, 2)) (w1 : Cond.classLink own index "[Ljava/lang/Object;" ∈ lw_all) (K : Y Γ Z k n Q G (pc + 2) lv (.ref (yad Γ 5) :: st)) : Y Γ Z k n Q G pc lv st := fun H locs ls a1 b c => va_ldcM E.x E.c E.o (E.w _ w1) E.kk.2.2.2.2.2.2.2.2.2.2.2.2.2.2.2.2.2.1 hd (K H locs ls a1 b c)
/-! statics -/
theorem YE.sst (E : YE Γ Z own cc ret hh L mc ms nm) : gSt Γ (zs Z) := E.kk.2.2.2.2.2
theorem YE.zB (E : YE Γ Z own cc ret hh L mc ms nm) : va_Z "SkerryLights$Side" "BOTH" "LSkerryLights$Side;" (.ref (yad Γ 0)) (yA Γ) (zs Z) (yH0 Γ) := E.sst.1
theorem YE.zLo (E : YE Γ Z own cc ret hh L mc ms nm) : va_Z "SkerryLights$Side" "LOWER" "LSkerryLights$Side;" (.ref (yad Γ 1)) (yA Γ) (zs Z) (yH0 Γ) := E.sst.2.1
theorem YE.zHi (E : YE Γ Z own cc ret hh L mc ms nm) : va_Z "SkerryLights$Side" "HIGHER" "LSkerryLights$Side;" (.ref (yad Γ 2)) (yA Γ) (zs Z) (yH0 Γ) := E.sst.2.2.1
theorem YE.zAL (E : YE Γ Z own cc ret hh L mc ms nm) : va_Z "java/util/ArrayList" "DEFAULTCAPACITY_EMPTY_ELEMENTDATA" "[Ljava/lang/Object;" (.ref (yad Γ 3)) (yA Γ) (zs Z) (yH0 Γ) := E.sst.2.2.2.1
theorem YE.zCS (E : YE Γ Z own cc ret hh L mc ms nm) : va_Z "java/lang/String" "COMPACT_STRINGS" "Z" (.int 1) (yA Γ) (zs Z) (yH0 Γ) := E.sst.2.2.2.2.1
theorem YE.zBA (E : YE Γ Z own cc ret hh L mc ms nm) : va_Z "java/util/BitSet" "$assertionsDisabled" "Z" (.int 1) (yA Γ) (zs Z) (yH0 Γ) := E.sst.2.2.2.2.2.1
theorem YE.zIA (E : YE Γ Z own cc ret hh L mc ms nm) : va_Z "java/util/ImmutableCollections" "$assertionsDisabled" "Z" (.int 1) (yA Γ) (zs Z) (yH0 Γ) := E.sst.2.2.2.2.2.2.1
theorem YE.zSF (E : YE Γ Z own cc ret hh L mc ms nm) : ∃ r : Option Nat, va_Z "jdk/internal/util/Preconditions" "SIOOBE_FORMATTER" "Ljava/util/function/BiFunction;" (va_rf r) (yA Γ) (zs Z) (yH0 Γ) := E.sst.2.2.2.2.2.2.2.1
theorem YE.zIF (E : YE Γ Z own cc ret hh L mc ms nm) : ∃ r : Option Nat, va_Z "jdk/internal/util/Preconditions" "IOOBE_FORMATTER" "Ljava/util/function/BiFunction;" (va_rf r) (yA Γ) (zs Z) (yH0 Γ) := E.sst.2.2.2.2.2.2.2.2.1
theorem YE.vkC (E : YE Γ Z own cc ret hh L mc ms nm) : vk_R "SkerryLights$Reader" 69 "LDBMSFPN" (yad Γ 4) (zs Z) := E.sst.2.2.2.2.2.2.2.2.2.1
end CP
