/-! ===== cloning of byte arrays; private methods of a class above ===== -/
section SB0
variable {Γ : yG} {Z : yZ} {own : String} {cc : ByteArray} {ret : Option FieldType} {hh : List (Nat × Nat × Nat × Nat)} {L mc ms : Nat} {nm : String} {k n : Nat} {Q : State → Prop} {G : yH} {pc : Nat} {lv : List (Option Value)} {st : List Value}
theorem y_cloneB (E : YE Γ Z own cc ret hh L mc ms nm) {index N a : Nat} {w : Int → Int} {t0 : yT} (t : Nat × Nat) (hd : decode cc pc = .ok (.invokevirtual index, 3)) (w1 : Cond.methodLink own index ⟨"[B", "clone", "()Ljava/lang/Object;"⟩ ∈ lw_all) (hG : G a = some (t0, aI 2 N w)) (hfit : ∀ i : Nat, i < N → fits .byte (.int (iI (w i))) = true) (hL : 0 < L) (hk : k + 1 ≤ mc) (hn : n + N ≤ ms) (hcat : (st.map fun v => v.category).sum ≤ 8) (K : ∀ q, G q = none → Y Γ Z (k + 1) (n + N) Q (gset G q (some t, aI 2 N w)) (pc + 3) lv (.ref q :: st)) : Y Γ Z k n Q G pc lv (.ref a :: st) := by
  intro H locs ls a1 b c
  have hat : H[a]? = some (vp_cell (ydA Γ 2) (N, .inl (fun j : Nat => iI (w (j : Int))))) := (a1.2.2 a _ hG).2
  have hKA : (zs Z).vm.findClass ("[" ++ FieldType.byte.toString) = some (ydA Γ 2) := (E.K.2 2 _ (yTys_at Γ (by decide))).2
  have hnm : (zs Z).vm.findClass "[B" = some (ydA Γ 2) := by
    have e : "[" ++ FieldType.byte.toString = "[B" := by decide +kernel
    rw [e] at hKA
    exact hKA
  generalize hx : ((N, .inl (fun j : Nat => iI (w (j : Int)))) : vp_A) = x at hat
  have hsz : (vp_cell (ydA Γ 2) x).slots.size = N := by rw [← hx]; exact arrV_size _ _ _
  have hvm0 : (vp_cell (ydA Γ 2) x).vm = .none := by rw [← hx]; rfl
  have hcl0 : (vp_cell (ydA Γ 2) x).cls = ydA Γ 2 := by rw [← hx]; rfl
  have hcellE : ({ cls := (vp_cell (ydA Γ 2) x).cls, slots := (vp_cell (ydA Γ 2) x).slots } : Cell) = vp_cell (ydA Γ 2) x := by rw [← hx]; rfl
  obtain ⟨c0, t0', f1, f2, f3⟩ := Cond.castable_spec (va_Nw.use (A := za Z) rfl (E.kk.2.2.1 _ q627 rfl))
  cases hnm.symm.trans f1
  intro T hT X
  have hcellT : T.heap[a]? = some (vp_cell (ydA Γ 2) x) := by rw [hT]; exact hat
  have hAr := (E.K.2 2 _ (yTys_at Γ (by decide))).1
  obtain ⟨-, kA, hkA, comp, hkind⟩ := State.isArrayOf_alike X.warmed.alike (hAr 0 (fun _ => .null))
  obtain ⟨-, kS, hkS, compS, hkindS⟩ := hAr 0 (fun _ => .null)
  obtain ⟨vm', X', stp⟩ := X.cloneArray E.x E.o (E.w _ w1) (E.w _ q623) (E.w _ q624) (E.w _ q625) (E.w _ q626) (a := a) (cell := vp_cell (ydA Γ 2) x) hcellT (fun k h => by rw [hvm0] at h; cases h) (by rw [hvm0]; exact fun h => by cases h) (by rw [hcl0]; exact hnm) f2 (by rw [hcl0]; exact f3)
    (fun i v hv => by
      rw [hcl0]
      have hk' : T.vm.classes[ydA Γ 2]? = some kA := hkA
      have hiN : i < N := by
        have := (Array.getElem?_eq_some_iff.mp hv).1
        omega
      have hv2 : v = .int (iI (w (i : Int))) := by
        rw [← hx] at hv
        have := arrV_read (ydA Γ 2) (fun j : Nat => Value.int (iI (w (j : Int)))) hiN
        exact Option.some.inj (hv.symm.trans this)
      have this : fits (gAty 2) v = true := by rw [hv2]; exact hfit i hiN
      simpa [State.fitsSlot, State.slotType?, hk', hkind] using this)
    (g := F0 (zm Z) pc ls (.ref a :: st)) rfl (by rw [c.2.1]) rfl (by rw [E.c]; exact hd) (by rw [E.rf]; omega) (by rw [E.rl]; show 2 * 0 + _ + 14 ≤ _; omega) (by rw [E.rc]; exact hk) (by rw [hsz, E.rs]; exact hn) (hloader := by rw [hcl0]; exact Vm.clonesLoader_of_array hkS hkindS)
  rw [hcellE, hsz] at X'
  generalize hH1 : H.push (vp_cell (ydA Γ 2) x) = H1
  have z1 : H1.size = H.size + 1 := by rw [← hH1, Array.size_push]
  have e1 : H1[H.size]? = some (vp_cell (ydA Γ 2) x) := by rw [← hH1, Array.getElem?_push_size]
  have o1 : ∀ q : Nat, q < H.size → H1[q]? = H[q]? := fun q hq => by rw [← hH1, Array.getElem?_push, if_neg (Nat.ne_of_lt hq)]
  obtain ⟨t2, b1, b2⟩ := K H.size (gR_new a1) H1 locs ls (gR_add a1 z1 o1 (by
      show H1[H.size]? = some (vp_cell _ _)
      rw [e1, ← hx])) ⟨Nat.le_trans b.1 (by omega), fun x h1 h2 => (o1 x (Nat.lt_of_lt_of_le h1 b.1)).trans (b.2.1 x h1 h2), b.2.2⟩ c ((T.setVm vm').pushCell (vp_cell (ydA Γ 2) x)) (by rw [← hH1, ← hT]; rfl) X'
  refine ⟨t2, stp t2 ?_, b2⟩
  rw [hcellE, hT]
  exact b1
theorem y_instN (E : YE Γ Z own cc ret hh L mc ms nm) {index v ci : Nat} {C : String} {T : u_T} {N : Nat} {nm9 : String} {t : yT} {fs : List Value} (hd : decode cc pc = .ok (.instanceof index, 3)) (hl : Cond.classLink own index nm9 ∈ lw_all) (hG : G v = some (t, .inr (ci, fs))) (hc : gCl[ci]? = some (C, T, N)) (hn : (C, nm9) ∈ gNc) (K : Y Γ Z k n Q G (pc + 3) lv (.int (iI 0) :: st)) : Y Γ Z k n Q G pc lv (.ref v :: st) := by
  intro H locs ls a b c
  have hP := va_P_1 (a.2.2 v _ hG).2
  have hr := va_recv (q0 := 0) E.K hP hc rfl
  exact va_instNo E.x E.c E.o (E.w _ hl) (E.kk.2.2.2.2.2.2.2.2.2.2.2.2.2.2.2.2.2.2.1 _ hn) hr hd (K H locs ls a b c)
/-- a private method of a class above the receiver's -/
def LPV (own : String) (index : Nat) (y : MethodName) (cc : ByteArray) (nL : Nat) (ret : Option FieldType) (n : Nat) : Prop := Cond.methodLink own index y ∈ lw_all ∧ Cond.sameMethod y.cls y.cls y.name y.desc ∈ lw_all ∧ y ∈ gPv ∧ Cond.instanceMethod y ∈ lw_all ∧ Cond.initialized y.cls ∈ lw_all ∧ Cond.code y cc nL ret ∈ lw_all ∧ mdOk y n ∧ nL ≤ 100
variable {y : MethodName} {cc' : ByteArray} {nL' : Nat} {ret' : Option FieldType} {L' mc' ms' n' : Nat} {As rest : List Value} {Post : Option Value → yH → Prop} {PX : String → yH → Prop}
theorem y_callPV (E : YE Γ Z own cc ret hh L mc ms nm) {index ci b : Nat} {C : String} {t : yT} {fs : List Value} (hd : decode cc pc = .ok (.invokevirtual index, 3)) (hW : LPV own index y cc' nL' ret' n') (hC : Ct Γ y cc' nL' ret' L' mc' ms' (.ref b :: As) G Post PX) (hst : st = As.reverse ++ .ref b :: rest) (hG : G b = some (t, .inr (ci, fs))) (hc : (gCl[ci]?).map (fun q => q.1) = some C) (hL : L' < L) (hk : k + mc' ≤ mc) (hn : n + ms' ≤ ms) (hlen : As.length = n') (hcat : (rest.map fun v => v.category).sum ≤ 8) (K : ∀ v G', Post v G' → Y Γ Z (k + mc') (n + ms') Q G' (pc + 3) lv (v.toList ++ rest)) (KX : ∀ Ex q G', PX Ex G' → Yx Γ Z (k + mc') (n + ms') Q G' pc lv Ex q) : Y Γ Z k n Q G pc lv st := by
  obtain ⟨w1, w2, w3, w4, w5, w6, ⟨hm1, hm2, hm3⟩, hnl⟩ := hW
  refine y_run (a := (Value.ref b :: As).toArray) (fun H locs ls a b' c => ?_) K KX
  intro T hT X
  obtain ⟨cellB, hcB, hoB, hclB⟩ := y_recv E a hG hc
  have hroom := y_room E (mc' := mc') (ms' := ms') hL hnl
  have hcells := y_cells E hk hn
  have hword : ∀ w ∈ lw_all, ∀ (a' : Array Value) (U : State), (zs Z).WarmedH U.vm → w.before a' U = true := fun w hw a' U hWm => word_at hWm (good_of_word (List.mem_filter.mp hw).2) (E.w w hw)
  have hpriv : (zs Z).PrivateAt y := E.kk.2.2.2.2.2.2.2.2.2.2.2.2.2.2.2.2.2.2.2 y w3
  have hsel : (Cond.selects C y y).before (za Z) (zs Z) = true := by
    obtain ⟨cn, ck, r1, hcn, hck, hni, hf, hn1⟩ := Cond.sameMethod_found (E.w _ w2)
    obtain ⟨mk, methM, hnamed, hmethM, -, -⟩ := Cond.instanceMethod_spec (E.w _ w4)
    have hr : r1 = mk := Option.some.inj (hn1.symm.trans hnamed)
    subst hr
    have hs : selectMethod {} (zs Z).vm cellB.cls r1 = .method r1 := selectMethod_private hmethM (hpriv r1 methM hnamed hmethM)
    have hcls : (zs Z).vm.classes[r1.cls]? = some ck := by
      have e := Option.some.inj ((findClass_of_methodNamed hnamed).symm.trans hcn)
      rw [e]
      exact hck
    simp only [Cond.before, Cond.holds, Cond.value, hclB, hf, hnamed, hs, hcls]
    simp
    exact hni
  have hK : vx_Back (yl Γ) (zR Z) (zp Z) (ze Z) (zb Z) (zs Z) (za Z) y 3 8 (PreOf (zR Z) mc' ms' (va_Pc (.ref b :: As) (fun U => KK Γ U ∧ gR Γ G U.heap))) (PostOf (gQ Γ Post) mc' ms' (yA Γ)) (vx_Post (gX Γ PX) mc' ms' (yA Γ)) := by
    refine vx_back (bytes := cc') (maxL := nL') (ret := ret') hC y_blind rfl rfl hroom.1 hroom.2 ?_ (List.mem_cons_self) (hword _ w5)
    intro w hw
    rcases List.mem_cons.mp hw with hw | hw
    · subst hw
      exact hword _ w6
    · exact hword w hw
  rcases vx_callVU X E.x (C := C) (owner := y.cls) (bytes := cc') (maxL := nL') (ret := ret') E.o (E.w _ w1) (E.w _ w2) (va_Decl.of (E.w _ w4) (E.w _ w6)) ⟨hm1, hm2⟩ hsel (E.w _ w4) (E.w _ w6) hK (by rw [hT]; exact hcB) hoB hclB rfl c.2.1 (argsL := As) (rest := rest) (fun sig h => by rw [h] at hm3; exact hlen.trans (Option.some.inj hm3).symm) hst (lv_room hcat) (by rw [E.c]; exact hd)
    (fun vm₁ hW₁ => ⟨hcells.1, hcells.2, y_pre E a (T.setVm vm₁) hT hW₁⟩) with ⟨v, vm₁, ⟨U', l2, c2, s2⟩, hW₁, X', ⟨g', mk, t, L, e1, e2, hq, h1, hL, h2, h3⟩, st⟩ | ⟨q, vm₁, ⟨U', l2, c2, s2⟩, hW₁, X', ⟨g', mk, t, L, E', ce, e1, e2, hq, hce, hcv, hcl, h1, hL, h2, h3⟩, st⟩
  · dsimp only [Pt.U, Pt.locs, Pt.cells, Pt.slots] at X' e1 e2 h1 h2 h3 st
    subst h1; subst h2; subst h3
    exact Or.inl ⟨v, (T.setVm vm₁).calling g' mk (Value.ref b :: As).toArray, t, U', L, hT, X', hL, e1, e2, hq, st⟩
  · dsimp only [Pt.U, Pt.locs, Pt.cells, Pt.slots] at X' e1 e2 h1 h2 h3 st hcl
    subst h1; subst h2; subst h3
    exact Or.inr ⟨q, (T.setVm vm₁).calling g' mk (Value.ref b :: As).toArray, t, U', L, E', ce, hT, X', hL, e1, e2, hq, hce, hcv, vx_cls hW₁ hcl, st⟩
theorem lp_J5_100 : LPV RJ5 100 yJ5_ensureCapacityInternal cJ5_ensureCapacityInternal 3 none 1 := ⟨q600, q3055, (by decide +kernel), q602, q112, q603, md_J5_ensureCapacityInternal, by decide⟩
theorem lp_J5_104 : LPV RJ5 104 yJ5_newCapacity cJ5_newCapacity 6 (some .int) 1 := ⟨q604, q3056, (by decide +kernel), q606, q112, q607, md_J5_newCapacity, by decide⟩
theorem lp_J5_215 : LPV RJ5 215 yJ5_inflateIfNeededFor_2 cJ5_inflateIfNeededFor_2 2 none 1 := ⟨q2034, q3076, (by decide +kernel), q2036, q112, q2037, md_J5_inflateIfNeededFor_2, by decide⟩
end SB0
