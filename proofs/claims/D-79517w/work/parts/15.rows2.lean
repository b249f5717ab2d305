/-! ===== more rows: statics, casts, new arrays, throws, handlers, switches ===== -/
section YB3
variable {Γ : yG} {Z : yZ} {own : String} {cc : ByteArray} {ret : Option FieldType} {hh : List (Nat × Nat × Nat × Nat)} {L mc ms : Nat} {nm : String} {k n : Nat} {Q : State → Prop} {G : yH} {pc : Nat} {lv : List (Option Value)} {st : List Value}
theorem y_gets (E : YE Γ Z own cc ret hh L mc ms nm) {index : Nat} {C f d ref : String} {v : Value} (hd : decode cc pc = .ok (.getstatic index, 3)) (hZ : va_Z C f d v (yA Γ) (zs Z) (yH0 Γ)) (hl : Cond.fieldLink own index ref f d ∈ lw_all) (hs : C = ref ∨ Cond.sameField ref C f d ∈ lw_all) (K : Y Γ Z k n Q G (pc + 3) lv (v :: st)) : Y Γ Z k n Q G pc lv st := by
  intro H locs ls a b c
  obtain ⟨cf, kf, fi, fd, ad, cell, h1, h2, h3, h4, h5, h6, h7, h8⟩ := hZ
  have hsame : (zs Z).fieldFound? ref f d = some (cf, kf, fi, fd) := by
    rcases hs with e | e
    · subst e
      exact h1
    · exact u_same (E.w _ e) _ h1
  exact W.gets E.x E.c E.o (E.w _ hl) hsame h2 h3 h4 (by rw [a.2.1 ad (Nat.not_le.mp h8)]; exact h5) (fun e => by rw [e] at h6; cases h6) h7 rfl hd (K H locs ls a b c)
theorem y_ccastN (E : YE Γ Z own cc ret hh L mc ms nm) {index : Nat} (hd : decode cc pc = .ok (.checkcast index, 3)) (K : Y Γ Z k n Q G (pc + 3) lv (.null :: st)) : Y Γ Z k n Q G pc lv (.null :: st) := fun H locs ls a b c => lv_castN E.x E.c hd (K H locs ls a b c)
theorem y_ccast (E : YE Γ Z own cc ret hh L mc ms nm) {index v ci : Nat} {C : String} {T : u_T} {N : Nat} {nm9 : String} {t : yT} {fs : List Value} (hd : decode cc pc = .ok (.checkcast index, 3)) (hl : Cond.classLink own index nm9 ∈ lw_all) (hG : G v = some (t, .inr (ci, fs))) (hc : gCl[ci]? = some (C, T, N)) (hcst : C = nm9 ∨ Cond.castable C nm9 ∈ lw_tbl) (K : Y Γ Z k n Q G (pc + 3) lv (.ref v :: st)) : Y Γ Z k n Q G pc lv (.ref v :: st) := by
  intro H locs ls a b c
  have hP := va_P_1 (a.2.2 v _ hG).2
  have hr := va_recv (q0 := 0) E.K hP hc rfl
  rcases hcst with e | e
  · subst e
    exact va_castS E.x E.c E.o (E.w _ hl) (E.K.1 ci _ hc).2 hr hd (K H locs ls a b c)
  · exact va_castY E.x E.c E.o (E.w _ hl) (E.kk.2.2.1 _ e rfl) hr hd (K H locs ls a b c)
theorem y_inst (E : YE Γ Z own cc ret hh L mc ms nm) {index v ci : Nat} {C : String} {T : u_T} {N : Nat} {nm9 : String} {t : yT} {fs : List Value} (hd : decode cc pc = .ok (.instanceof index, 3)) (hl : Cond.classLink own index nm9 ∈ lw_all) (hG : G v = some (t, .inr (ci, fs))) (hc : gCl[ci]? = some (C, T, N)) (hcst : C = nm9 ∨ Cond.castable C nm9 ∈ lw_tbl) (K : Y Γ Z k n Q G (pc + 3) lv (.int (iI 1) :: st)) : Y Γ Z k n Q G pc lv (.ref v :: st) := by
  intro H locs ls a b c
  have hP := va_P_1 (a.2.2 v _ hG).2
  have hr := va_recv (q0 := 0) E.K hP hc rfl
  rcases hcst with e | e
  · subst e
    exact va_instS E.x E.c E.o (E.w _ hl) (E.K.1 ci _ hc).2 hr hd (K H locs ls a b c)
  · exact va_instY E.x E.c E.o (E.w _ hl) (E.kk.2.2.1 _ e rfl) hr hd (K H locs ls a b c)
/-! new arrays -/
theorem y_newarrG (E : YE Γ Z own cc ret hh L mc ms nm) {atype : ArrayType} (kd : Nat) (t : Nat × Nat) {N : Int} {x : (Nat → Int32) ⊕ (Nat → Int64) ⊕ (Nat → UInt32) ⊕ (Nat → UInt64) ⊕ (Nat → Option Nat)} (hkd : kd < 7) (hty : gAty kd = newarray.typeOf atype) (hx : ∀ (cA : ClassId) (N' : Nat), vp_cell cA (N', x) = arrV cA N' (fun _ => defaultValue (newarray.typeOf atype))) (hprim : ∀ U c, va_RA U c (newarray.typeOf atype) → U.vm.findClass ("[" ++ (newarray.typeOf atype).toString) = some c) (hw : Cond.arrayClass (newarray.typeOf atype) ∈ lw_all) (hd : decode cc pc = .ok (.newarray atype, 2)) (h0 : 0 ≤ N ∧ N ≤ 60000) (hk : k + 1 ≤ mc) (hn : n + N.toNat ≤ ms) (K : ∀ q, G q = none → Y Γ Z (k + 1) (n + N.toNat) Q (gset G q (some t, .inl (kd, N.toNat, x))) (pc + 2) lv (.ref q :: st)) : Y Γ Z k n Q G pc lv (.int (iI N) :: st) := by
  intro H locs ls a b c
  have hb8 : componentBytes (newarray.typeOf atype) ≤ 8 := by cases atype <;> decide
  refine va_newaK E.x E.c (E.w _ hw) rfl hd rfl (iI_nneg h0.1 (by omega)) (N := N.toNat) (iI_clamp h0.1 (by omega)) (Nat.le_trans (Nat.mul_le_mul_left _ hb8) (by omega)) (by rw [E.rc]; exact hk) (by rw [E.rs]; exact hn) rfl fun H1 cA e1 z1 o1 hAr hNm => ?_
  have hKA := (E.K.2 kd _ (yTys_at Γ hkd)).2
  rw [hty] at hKA
  have hcA : cA = ydA Γ kd := Option.some.inj (hNm.symm.trans (hprim _ _ hKA))
  subst hcA
  refine K H.size (gR_new a) H1 locs ls (gR_add a z1 o1 ?_) ⟨Nat.le_trans b.1 (by omega), fun x h1 h2 => (o1 x (Nat.lt_of_lt_of_le h1 b.1)).trans (b.2.1 x h1 h2), b.2.2⟩ c
  show H1[H.size]? = some (vp_cell _ _)
  rw [hx]
  exact e1
theorem y_newI (E : YE Γ Z own cc ret hh L mc ms nm) (t : Nat × Nat) {N : Int} (hw : Cond.arrayClass .int ∈ lw_all) (hd : decode cc pc = .ok (.newarray .int, 2)) (h0 : 0 ≤ N ∧ N ≤ 60000) (hk : k + 1 ≤ mc) (hn : n + N.toNat ≤ ms) (K : ∀ q, G q = none → Y Γ Z (k + 1) (n + N.toNat) Q (gset G q (some t, aI 0 N.toNat (fun _ => 0))) (pc + 2) lv (.ref q :: st)) : Y Γ Z k n Q G pc lv (.int (iI N) :: st) :=
  y_newarrG (atype := .int) E 0 t (x := .inl (fun _ => iI 0)) (by decide) rfl (fun cA N' => rfl) (fun U c h => h) hw hd h0 hk hn K
theorem y_newB (E : YE Γ Z own cc ret hh L mc ms nm) (t : Nat × Nat) {N : Int} (hw : Cond.arrayClass .byte ∈ lw_all) (hd : decode cc pc = .ok (.newarray .byte, 2)) (h0 : 0 ≤ N ∧ N ≤ 60000) (hk : k + 1 ≤ mc) (hn : n + N.toNat ≤ ms) (K : ∀ q, G q = none → Y Γ Z (k + 1) (n + N.toNat) Q (gset G q (some t, aI 2 N.toNat (fun _ => 0))) (pc + 2) lv (.ref q :: st)) : Y Γ Z k n Q G pc lv (.int (iI N) :: st) :=
  y_newarrG (atype := .byte) E 2 t (x := .inl (fun _ => iI 0)) (by decide) rfl (fun cA N' => rfl) (fun U c h => h) hw hd h0 hk hn K
theorem y_newC (E : YE Γ Z own cc ret hh L mc ms nm) (t : Nat × Nat) {N : Int} (hw : Cond.arrayClass .char ∈ lw_all) (hd : decode cc pc = .ok (.newarray .char, 2)) (h0 : 0 ≤ N ∧ N ≤ 60000) (hk : k + 1 ≤ mc) (hn : n + N.toNat ≤ ms) (K : ∀ q, G q = none → Y Γ Z (k + 1) (n + N.toNat) Q (gset G q (some t, aI 3 N.toNat (fun _ => 0))) (pc + 2) lv (.ref q :: st)) : Y Γ Z k n Q G pc lv (.int (iI N) :: st) :=
  y_newarrG (atype := .char) E 3 t (x := .inl (fun _ => iI 0)) (by decide) rfl (fun cA N' => rfl) (fun U c h => h) hw hd h0 hk hn K
theorem y_newL (E : YE Γ Z own cc ret hh L mc ms nm) (t : Nat × Nat) {N : Int} (hw : Cond.arrayClass .long ∈ lw_all) (hd : decode cc pc = .ok (.newarray .long, 2)) (h0 : 0 ≤ N ∧ N ≤ 60000) (hk : k + 1 ≤ mc) (hn : n + N.toNat ≤ ms) (K : ∀ q, G q = none → Y Γ Z (k + 1) (n + N.toNat) Q (gset G q (some t, aL N.toNat (fun _ => 0))) (pc + 2) lv (.ref q :: st)) : Y Γ Z k n Q G pc lv (.int (iI N) :: st) :=
  y_newarrG (atype := .long) E 1 t (x := .inr (.inl (fun _ => 0))) (by decide) rfl (fun cA N' => rfl) (fun U c h => h) hw hd h0 hk hn K
theorem y_newD (E : YE Γ Z own cc ret hh L mc ms nm) (t : Nat × Nat) {N : Int} (hw : Cond.arrayClass .double ∈ lw_all) (hd : decode cc pc = .ok (.newarray .double, 2)) (h0 : 0 ≤ N ∧ N ≤ 60000) (hk : k + 1 ≤ mc) (hn : n + N.toNat ≤ ms) (K : ∀ q, G q = none → Y Γ Z (k + 1) (n + N.toNat) Q (gset G q (some t, aD N.toNat (fun _ => 0))) (pc + 2) lv (.ref q :: st)) : Y Γ Z k n Q G pc lv (.int (iI N) :: st) :=
  y_newarrG (atype := .double) E 4 t (x := .inr (.inr (.inr (.inl (fun _ => 0))))) (by decide) rfl (fun cA N' => rfl) (fun U c h => h) hw hd h0 hk hn K
theorem y_newR (E : YE Γ Z own cc ret hh L mc ms nm) {index : Nat} (kd : Nat) (t : Nat × Nat) {C : String} {N : Int} (hC : gAty kd = .object C) (hkd : kd < 7) (hl : Cond.classLink own index C ∈ lw_all) (hao : C ∈ gAO) (hd : decode cc pc = .ok (.anewarray index, 3)) (h0 : 0 ≤ N ∧ N ≤ 60000) (hk : k + 1 ≤ mc) (hn : n + N.toNat ≤ ms) (K : ∀ q, G q = none → Y Γ Z (k + 1) (n + N.toNat) Q (gset G q (some t, aR kd N.toNat (fun _ => none))) (pc + 3) lv (.ref q :: st)) : Y Γ Z k n Q G pc lv (.int (iI N) :: st) := by
  intro H locs ls a b c
  have hcl : (iI N).toNatClampNeg = N.toNat := iI_clamp h0.1 (by omega)
  refine W.anew E.x E.c E.o (E.w _ hl) (va_AO.use (E.kk.2.2.2.2.1 _ hao)) rfl hd rfl (iI_nneg h0.1 (by omega)) (by rw [hcl]; omega) (by rw [E.rc]; exact hk) (by rw [hcl, E.rs]; exact hn) fun cA kA comp f1 f2 f3 f4 => ?_
  rw [hcl]
  generalize hH1 : H.push ({ cls := cA, slots := Array.replicate N.toNat .null, vm := .none } : Cell) = H1
  have z1 : H1.size = H.size + 1 := by rw [← hH1, Array.size_push]
  have e1 : H1[H.size]? = some (arrV cA N.toNat (fun _ => .null)) := by rw [← hH1, Array.getElem?_push_size, ← arrV_new]
  have o1 : ∀ q : Nat, q < H.size → H1[q]? = H[q]? := fun q hq => by rw [← hH1, Array.getElem?_push, if_neg (Nat.ne_of_lt hq)]
  have hKA := (E.K.2 kd _ (yTys_at Γ hkd)).2
  rw [hC] at hKA
  obtain ⟨kA', comp', -, -, -, g4⟩ := hKA
  have hcA : cA = ydA Γ kd := Option.some.inj (f1.symm.trans g4)
  subst hcA
  refine K H.size (gR_new a) H1 locs ls (gR_add a z1 o1 ?_) ⟨Nat.le_trans b.1 (by omega), fun x h1 h2 => (o1 x (Nat.lt_of_lt_of_le h1 b.1)).trans (b.2.1 x h1 h2), b.2.2⟩ c
  show H1[H.size]? = some (vp_cell _ _)
  rw [vp_cell_q]
  exact e1
/-! throws -/
/-- any word of the tables that lasts -/
theorem y_word (E : YE Γ Z own cc ret hh L mc ms nm) {w : Cond} (h : w ∈ lw_tbl) (hg : (goodWord w || nestWord w) = true) : w.before (za Z) (zs Z) = true := by
  rw [Bool.or_eq_true] at hg
  rcases hg with hg | hg
  · exact E.w _ (List.mem_filter.mpr ⟨h, hg⟩)
  · have h1 := E.kk.2.2.1 _ h hg
    cases w <;> first | exact va_Nw.use rfl h1 | cases hg
def TH (own : String) (ik ic : Nat) (cls : String) : Prop := Bundle.fit cls = true ∧ Cond.classLink own ik cls ∈ lw_all ∧ Cond.initialized cls ∈ lw_all ∧ (∀ w ∈ vx_at0 own ic cls ["java/lang/RuntimeException", "java/lang/Exception"], w ∈ lw_tbl) ∧ (vx_at0 own ic cls ["java/lang/RuntimeException", "java/lang/Exception"]).all (fun w => goodWord w || nestWord w) = true ∧ (Cond.classLink own ik cls :: Cond.initialized cls :: vx_at0 own ic cls ["java/lang/RuntimeException", "java/lang/Exception"]).all vx_ot = true
theorem th_of {own : String} {ik ic : Nat} {cls : String} (ps : List Nat) (h1 : Bundle.fit cls = true) (h2 : Cond.classLink own ik cls ∈ lw_all) (h3 : Cond.initialized cls ∈ lw_all) (h4 : vx_at0 own ic cls ["java/lang/RuntimeException", "java/lang/Exception"] = ps.filterMap (fun i => lw_tbl[i]?)) (h5 : (vx_at0 own ic cls ["java/lang/RuntimeException", "java/lang/Exception"]).all (fun w => goodWord w || nestWord w) = true) (h6 : (Cond.classLink own ik cls :: Cond.initialized cls :: vx_at0 own ic cls ["java/lang/RuntimeException", "java/lang/Exception"]).all vx_ot = true) : TH own ik ic cls := by
  refine ⟨h1, h2, h3, fun w hw => ?_, h5, h6⟩
  rw [h4] at hw
  obtain ⟨i, -, hi⟩ := List.mem_filterMap.mp hw
  exact List.mem_of_getElem? hi
/-- 'throw new E()' in a method without handlers: it leaves the method -/
theorem y_throw (E : YE Γ Z own cc ret [] L mc ms nm) {Post : Option Value → yH → Prop} {PX : String → yH → Prop} (F : YF Γ Z Q mc ms Post PX) {ik ic : Nat} {cls : String} (hT : TH own ik ic cls) (d0 : decode cc pc = .ok (.new ik, 3)) (d3 : decode cc (pc + 3) = .ok (.dup, 1)) (d4 : decode cc (pc + 4) = .ok (.invokespecial ic, 3)) (d7 : decode cc (pc + 7) = .ok (.athrow, 1)) (hL : 0 < L) (hcat : (st.map fun v => v.category).sum ≤ 8) (hk : k + 1 ≤ mc) (hn : n + 6 ≤ ms) (hP : PX cls G) : Y Γ Z k n Q G pc lv st := by
  obtain ⟨h1, h2, h3, h4, h5, h6⟩ := hT
  intro H locs ls a b c
  rw [F]
  have hz : ∀ C n d, vx_Zq C n d (yA Γ) (zs Z) (yH0 Γ) → va_S (yA Γ) (zs Z).heap H locs → True := fun _ _ _ _ _ => trivial
  have hold : ∀ q : Nat, q < (yH0 Γ).size → ¬ yA Γ q → (zs Z).heap[q]? = (yH0 Γ)[q]? := fun q hq hA => by
    have hq1 : q < (zs Z).heap.size := Nat.lt_of_lt_of_le hq E.N
    rw [← b.2.1 q hq1 hA]
    exact a.2.1 q hq
  have hU := E.kk.2.2.2.2.2.2.2.2.2.2.2.2.2.2.2.1.kept hold
  have hN := E.kk.2.2.2.2.2.2.2.2.2.2.2.2.2.2.2.2.1.kept hold
  refine vx_throw0 (names := ["java/lang/RuntimeException", "java/lang/Exception"]) E.x E.c E.kk.1 E.o h1 (by decide +kernel) (E.w _ h2) (E.w _ h3) (fun w hw => y_word E (h4 w hw) (List.all_eq_true.mp h5 w hw)) (fun w hw => List.all_eq_true.mp h6 w hw) hU hN b c.2.1 d0 d3 d4 d7 (fun x hx => (tableOf_nil (by rw [← E.t]; exact hx)).elim) (by rw [E.rf]; show 2 + 3 < 8 * L; omega) (by rw [E.rl]; show _ + (13 * (2 + 1) + 42) ≤ _; omega) (by rw [E.rc]; exact hk) (by rw [E.rs]; exact hn) E.lk (fun t hal hsz hsm => ⟨⟨G, hP, ?_⟩, ?_⟩) b.2.2 hk hn
  · exact ⟨Nat.le_trans a.1 hsz, fun q hq => (hsm q (Nat.lt_of_lt_of_le hq a.1)).trans (a.2.1 q hq), fun q v hv => ⟨(a.2.2 q v hv).1, (a.2.2 q v hv).2.kept (hsm q (gR_lt a hv))⟩⟩
  · exact ⟨Nat.le_trans b.1 hsz, fun q h1 h2 => (hsm q (Nat.lt_of_lt_of_le h1 b.1)).trans (b.2.1 q h1 h2)⟩
/-- a handler takes it: the rows ahead of it don't cover the place, or ask for another class -/
theorem y_catch (E : YE Γ Z own cc ret hh L mc ms nm) {Ex name : String} {q : Nat} (pre : List ExceptionTableEntry) (x : ExceptionTableEntry) (suf : List ExceptionTableEntry) (hsplit : tableOf hh = pre ++ x :: suf) (hpass : ∀ z ∈ pre, covers z pc = false ∨ (z.catchType ≠ 0 ∧ ∃ nm9 : String, Cond.classLink own z.catchType nm9 ∈ lw_all ∧ (Ex, nm9) ∈ gNc)) (hx : covers x pc = true) (h0 : x.catchType ≠ 0) (hl : Cond.classLink own x.catchType name ∈ lw_all) (hc : Cond.castable Ex name ∈ lw_tbl) (K : Y Γ Z k n Q G x.handlerPc lv [.ref q]) : Yx Γ Z k n Q G pc lv Ex q := by
  intro H locs ls rest ce a b c h1 h2 h3
  exact vx_catch E.o pre x suf (E.t.trans hsplit) (fun z hz => (hpass z hz).imp id (fun ⟨p1, nm9, p2, p3⟩ => ⟨p1, nm9, E.w _ p2, E.kk.2.2.2.2.2.2.2.2.2.2.2.2.2.2.2.2.2.2.1 _ p3⟩)) hx h0 (E.w _ hl) (va_Nw.use rfl (E.kk.2.2.1 _ hc rfl)) h1 h2 h3 (K H locs ls a b c)
/-! switches -/
theorem y_tsIn (E : YE Γ Z own cc ret hh L mc ms nm) {dflt lo hi off : Int} {offs : Array Int} {len : Nat} {x : Int} {tgt : Nat} (hd : decode cc pc = .ok (.tableswitch dflt lo hi offs, len)) (hx : inR x) (h : lo ≤ x ∧ x ≤ hi) (ho : offs[(x - lo).toNat]? = some off) (ht : (pc : Int) + off = (tgt : Int)) (K : Y Γ Z k n Q G tgt lv st) : Y Γ Z k n Q G pc lv (.int (iI x) :: st) := fun H locs ls a b c => lv_tableIn E.x E.c hd (by rw [iI_toInt hx]; omega) (by rw [iI_toInt hx]; omega) (by rw [iI_toInt hx]; exact ho) ht (K H locs ls a b c)
theorem y_tsOut (E : YE Γ Z own cc ret hh L mc ms nm) {dflt lo hi : Int} {offs : Array Int} {len : Nat} {x : Int} {tgt : Nat} (hd : decode cc pc = .ok (.tableswitch dflt lo hi offs, len)) (hx : inR x) (h : x < lo ∨ hi < x) (ht : (pc : Int) + dflt = (tgt : Int)) (K : Y Γ Z k n Q G tgt lv st) : Y Γ Z k n Q G pc lv (.int (iI x) :: st) := fun H locs ls a b c => lv_tableOut E.x E.c hd (by rw [iI_toInt hx]; exact h) ht (K H locs ls a b c)
theorem y_ls (E : YE Γ Z own cc ret hh L mc ms nm) {dflt off : Int} {ps : Array (Int × Int)} {len : Nat} {x : Int} {tgt : Nat} (hd : decode cc pc = .ok (.lookupswitch dflt ps, len)) (hx : inR x) (hp : (ps.toList.zip (ps.toList.drop 1)).all (fun (a, next) => a.1 < next.1) = true) (ho : Op.lookupswitch.offset ps.toList dflt x = off) (ht : (pc : Int) + off = (tgt : Int)) (K : Y Γ Z k n Q G tgt lv st) : Y Γ Z k n Q G pc lv (.int (iI x) :: st) := fun H locs ls a b c => lv_lookup E.x E.c hd hp (by rw [iI_toInt hx]; exact ho) ht (K H locs ls a b c)

theorem y_dcmp (E : YE Γ Z own cc ret hh L mc ms nm) {x y : UInt64} {op : CmpOp} (hd : decode cc pc = .ok (.dcmp op, 1)) (K : Y Γ Z k n Q G (pc + 1) lv (.int (Op.cmpValue (FP.dcmp x y) op) :: st)) : Y Γ Z k n Q G pc lv (.double y :: .double x :: st) := fun H locs ls a b c => lv_dcmp E.x E.c hd (K H locs ls a b c)
end YB3
