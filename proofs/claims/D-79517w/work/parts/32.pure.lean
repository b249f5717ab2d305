/-! ===== calls of methods of classes whose initialisation the words don't tell, or that aren't plainly named (vx_back's proof with the callee walked, not met) ===== -/
section ZU
theorem zu_weaken {tb : Tables} {e : Env} {mid below b' : List Frame} {s t : State} (hb : b' = mid ++ below) (h : Steps tb e b' s t) : Steps tb e below s t := by
  subst hb
  obtain ⟨k, hk, hw⟩ := h
  exact ⟨k, hk, fun j hj => (hw j hj).weaken⟩
variable {l : Launch} {R : Room} {p : Program} {e : Env} {below : List Frame} {s : State} {sargs : Array Value} {y : MethodName} {len W9 : Nat}
/-- what is known in the walked callee's body -/
def zu_B (p : Program) (y : MethodName) (bytes : ByteArray) (maxL : Nat) (ret : Option FieldType) (s : State) (m : MethodId) (meth : Method) (c : Code) : Prop :=
  s.methodNamed? y = some m ∧ s.vm.method? m = some meth ∧ meth.code = some c ∧ c.code = bytes ∧ c.maxLocals = maxL ∧ meth.sig.returnType = ret ∧ meth.locks = false ∧ c.exceptionTable.isEmpty = true
theorem zu_back {ws : List Cond} {rm : Room} {Pc : Array Value → State → Prop} {Qc : Array Value → State → Outcome → State → Prop} {XC : String → State → State → Prop} {mc ms : Nat} {free : Addr → Prop} {bytes : ByteArray} {maxL : Nat} {ret : Option FieldType}
    (hpl : plainFor y = true)
    (hM : ∀ (s' : State) (mk : MethodId) (a : Array Value) (below' : List Frame) (meth' : Method) (c' : Code), zu_B p y bytes maxL ret s' mk meth' c' → (∀ w ∈ ws, w.before a s' = true) → Pc a s' → W p l e rm s' mk a below' meth' c' s'.heap [] 0 0 (vx_MQ below' Qc XC a s' mc ms free) (entryFrame mk a maxL))
    (hblind : FrameBlind Pc) (hrc : rm.cells = mc) (hrs : rm.slots = ms)
    (hframes : rm.frames + 1 ≤ R.frames) (hlocals : W9 + (maxL + 11) + rm.locals ≤ R.locals)
    (hws : ∀ w ∈ ws, ∀ a' U, s.WarmedH U.vm → w.before a' U = true) (hcode : Cond.code y bytes maxL ret ∈ ws) :
    vx_Back l R p e below s sargs y len W9 (PreOf R mc ms Pc) (PostOf Qc mc ms free) (vx_Post XC mc ms free) := by
  intro m meth c A g ig mk a X hg hsize hdg hW hn hp
  have h2 : (Cond.code y bytes maxL ret).before a A.U = true := hws _ hcode _ _ X.warmed
  have h4 : A.cells + rm.cells ≤ R.cells := by rw [hrc]; exact hp.1
  have h5 : A.slots + rm.slots ≤ R.slots := by rw [hrs]; exact hp.2.1
  have hPc : Pc a (A.U.calling g mk a) := hblind _ _ _ _ hp.2.2
  obtain ⟨U, Ls, c0, s0⟩ := A
  dsimp only [Pt.U, Pt.locs, Pt.cells, Pt.slots] at h2 h4 h5 X hn hPc ⊢
  obtain ⟨methY, cY, hmY, hcY, hbY, hlY, hrY, hlkY, htY, -⟩ := Cond.code_spec hn h2
  have h : At U g.method c below := by rw [hg]; exact X.here
  obtain ⟨mid, hmid⟩ := h.above
  have hroom : (U.calling g mk a).hasRoom e.platform rm = true := X.room_calling (g := g) (R' := rm) hsize hmY hcY hframes (by rw [hlY]; omega) h4 h5
  have hfc : (U.calling g mk a).frames = .invoking mk a :: .java g :: U.frames.tail := State.frames_calling h.top g mk a
  have hcur := State.cur_lt_of_frames hfc
  have hcal : U.calling g mk a = U.setFrames (.invoking mk a :: .java g :: U.frames.tail) := State.calling_eq h.top g mk a
  have hears : (U.calling g mk a).hears mk (.java g :: U.frames.tail) = true := by
    have hcode : (U.calling g mk a).code? g.method = some c := by
      have := h.code
      rw [State.code?_eq] at this ⊢
      simpa [State.calling, State.pushFrame, State.setFrames] using this
    simp [State.hears, hcode, hdg, Except.toOption]
  have hnc : (U.calling g mk a).methodNamed? y = some mk := by rw [hcal]; exact hn
  have hmc : (U.calling g mk a).vm.method? mk = some methY := by rw [hcal]; exact hmY
  have hF1 : ((U.calling g mk a).setFrames (.java (entryFrame mk a maxL) :: .java g :: U.frames.tail)).frames = .java (entryFrame mk a maxL) :: .java g :: U.frames.tail := State.frames_setFrames _ hcur
  have ht1 := State.topJava?_of_frames hF1
  have hAt : At ((U.calling g mk a).setFrames (.java (entryFrame mk a maxL) :: .java g :: U.frames.tail)) mk cY (.java g :: U.frames.tail) :=
    ⟨by rw [ht1]; rfl, ⟨[], by rw [hF1]; rfl⟩, by rw [hcal]; exact h.running, by rw [hcal]; simpa using h.runnable, by rw [hcal]; simpa using h.alone,
      by rw [State.code?_eq]; simp [State.setFrames, hmc, hcY], State.plainMethod.of_named (x := y) hpl (by exact hnc) (by exact hmc)⟩
  have hS : Stand p l e rm (U.calling g mk a) mk a (.java g :: U.frames.tail) methY cY ((U.calling g mk a).setFrames (.java (entryFrame mk a maxL) :: .java g :: U.frames.tail)) [] 0 0 := by
    refine ⟨X.admits, X.cas, X.clock, hfc, hroom, hears, hmc, hcY, hAt, by rw [hF1]; rfl, State.WarmedH.refl _, by rw [State.stackLimits_setFrames], by rw [State.stackBytes_setFrames], ?_⟩
    obtain ⟨t9, ht9, -⟩ := State.frames_cons hfc
    exact (State.sameButNew.refl (U.calling g mk a) ht9).setFrames (.java (entryFrame mk a maxL) :: .java g :: U.frames.tail) hcur
  have hent : (doInvoke e (U.setTop g) [] mk a).1 = ((U.calling g mk a).setFrames (.java (entryFrame mk a maxL) :: .java g :: U.frames.tail)).setTop (entryFrame mk a maxL) := by
    rw [doInvoke_enter h.top [] hmY hcY hlkY (X.notFull (g := g) hsize (by omega) (by rw [hlY]; omega)), hlY]
    rw [State.setTop_of_frames _ hF1, State.setTop_of_frames _ (frames_entered (g := g) h.top (.java (entryFrame mk a maxL)))]
    rw [hcal, State.setFrames_setFrames, State.setFrames_setFrames, State.pushFrame, State.setFrames_setFrames]
    obtain ⟨g₀, hg0⟩ := Option.isSome_iff_exists.mp h.top
    obtain ⟨r, hr⟩ := State.topJava?_eq_some.mp hg0
    rw [State.setTop_of_frames _ hr, State.setFrames_setFrames]
  obtain ⟨s₂, hsteps', o, -, hend, hq⟩ := hM (U.calling g mk a) mk a (.java g :: U.frames.tail) methY cY ⟨hnc, hmc, hcY, hbY, hlY, hrY, hlkY, htY⟩ (fun w hw => by rw [hcal, Cond.before_setFrames]; exact hws w hw _ _ X.warmed) hPc ((U.calling g mk a).setFrames (.java (entryFrame mk a maxL) :: .java g :: U.frames.tail)) rfl hS
  have hsteps : Steps p.tables e below (doInvoke e (U.setTop g) [] mk a).1 s₂ := by
    rw [hent]
    have h9 : (Frame.java g :: U.frames.tail) = (.java g :: mid) ++ below := by rw [hmid]; rfl
    exact zu_weaken h9 hsteps'
  have hq' : vx_Q Qc XC mc ms free a (U.calling g mk a) o s₂ := hq
  have hend : Ended s₂ (.java g :: U.frames.tail) o := hend
  obtain ⟨g₀, hg0⟩ := Option.isSome_iff_exists.mp h.top
  obtain ⟨r, hr⟩ := State.topJava?_eq_some.mp hg0
  have hr' : (({ U with heap := s₂.heap, slotsUsed := s₂.slotsUsed } : State).setVm s₂.vm).frames = .java g₀ :: r := hr
  rcases hq' with ⟨hqc, L, hfe, hL⟩ | ⟨q, rfl, E, ce, L, hx, hce, hcv, hcl, hW₂, hsm, hL⟩
  · obtain ⟨⟨v, rfl⟩, hW₂, e2, q2, q3, q4, q5, q6⟩ := id hfe
    have e3 : s₂ = ({ (U.calling g mk a).setFrames s₂.frames with heap := s₂.heap, slotsUsed := s₂.slotsUsed } : State).setVm s₂.vm := by
      have : s₂ = ({ s₂ with vm := (U.calling g mk a).vm } : State).setVm s₂.vm := rfl
      rw [e2] at this
      exact this
    obtain ⟨c₂, i₂, len₂, hc₂, hd₂, hf₂⟩ := hend
    have hW' : U.WarmedH s₂.vm := hW₂
    have hcc : c₂ = c := by
      have h1 : s₂.code? g.method = U.code? g.method := by
        rw [State.code?_eq, State.code?_eq, hW'.alike.method?]
      exact Option.some.inj (hc₂.symm.trans (h1.trans h.code))
    subst hcc
    have hlen : len₂ = len := by rw [hdg] at hd₂; cases hd₂; rfl
    subst hlen
    have hs₂ : s₂ = (({ U with heap := s₂.heap, slotsUsed := s₂.slotsUsed } : State).setVm s₂.vm).setTop { g with pc := g.pc + len₂, stack := v.toList ++ g.stack } := by
      refine e3.trans ?_
      rw [hf₂, State.calling_eq h.top, State.setFrames_setFrames, State.setTop_of_frames _ hr', hr]
      rfl
    have hsame : U.sameButNew ({ U with heap := s₂.heap, slotsUsed := s₂.slotsUsed } : State) L mc ms := by
      refine ⟨?_, q2, q3, q4, q5, q6⟩
      obtain ⟨t, ht, -⟩ := State.frames_cons hr
      show ({ U with heap := s₂.heap, slotsUsed := s₂.slotsUsed } : State) = { U.setFrames U.frames with heap := s₂.heap, slotsUsed := s₂.slotsUsed }
      rw [State.setFrames_self ht]
    subst hg
    refine Or.inl ⟨v, ⟨(({ U with heap := s₂.heap, slotsUsed := s₂.slotsUsed } : State).setVm s₂.vm), Ls ++ L, c0 + mc, s0 + ms⟩,
      ⟨X.admits, X.cas, X.clock, X.frames, X.room, X.hears, X.method, X.code, (X.here.setHeapUsed s₂.heap s₂.slotsUsed).setVm hW'.alike, X.tail, State.WarmedH.trans X.warmed hW', X.limits, X.bytes, X.same.trans (hsame.setVm s.vm)⟩,
      ⟨g, mk, s₂, L, rfl, rfl, hqc, rfl, hL, rfl, rfl⟩, ?_⟩
    show Steps p.tables e below _ ((({ U with heap := s₂.heap, slotsUsed := s₂.slotsUsed } : State).setVm s₂.vm).setTop { g with pc := g.pc + len₂, stack := v.toList ++ g.stack })
    rw [← hs₂]
    exact hsteps
  · obtain ⟨e2, q2, q3, q4, q5, q6⟩ := id hsm
    have e3 : s₂ = ({ (U.calling g mk a).setFrames s₂.frames with heap := s₂.heap, slotsUsed := s₂.slotsUsed } : State).setVm s₂.vm := by
      have : s₂ = ({ s₂ with vm := (U.calling g mk a).vm } : State).setVm s₂.vm := rfl
      rw [e2] at this
      exact this
    have hf₂ : s₂.frames = .throwing q :: .java g :: U.frames.tail := hend
    have hW' : U.WarmedH s₂.vm := hW₂
    have hs₂ : s₂ = ((({ U with heap := s₂.heap, slotsUsed := s₂.slotsUsed } : State).setVm s₂.vm).setTop g).pushFrame (.throwing q) := by
      refine e3.trans ?_
      rw [hf₂, State.calling_eq h.top, State.setFrames_setFrames, State.pushFrame, State.frames_setTop _ hr', State.setTop_of_frames _ hr', State.setFrames_setFrames, hr]
      rfl
    have hsame : U.sameButNew ({ U with heap := s₂.heap, slotsUsed := s₂.slotsUsed } : State) L mc ms := by
      refine ⟨?_, q2, q3, q4, q5, q6⟩
      obtain ⟨t, ht, -⟩ := State.frames_cons hr
      show ({ U with heap := s₂.heap, slotsUsed := s₂.slotsUsed } : State) = { U.setFrames U.frames with heap := s₂.heap, slotsUsed := s₂.slotsUsed }
      rw [State.setFrames_self ht]
    subst hg
    refine Or.inr ⟨q, ⟨(({ U with heap := s₂.heap, slotsUsed := s₂.slotsUsed } : State).setVm s₂.vm), Ls ++ L, c0 + mc, s0 + ms⟩,
      ⟨X.admits, X.cas, X.clock, X.frames, X.room, X.hears, X.method, X.code, (X.here.setHeapUsed s₂.heap s₂.slotsUsed).setVm hW'.alike, X.tail, State.WarmedH.trans X.warmed hW', X.limits, X.bytes, X.same.trans (hsame.setVm s.vm)⟩,
      ⟨g, mk, s₂, L, E, ce, rfl, rfl, hx, hce, hcv, hcl, rfl, hL, rfl, rfl⟩, ?_⟩
    show Steps p.tables e below _ (((({ U with heap := s₂.heap, slotsUsed := s₂.slotsUsed } : State).setVm s₂.vm).setTop g).pushFrame (.throwing q))
    rw [← hs₂]
    exact hsteps
/-- a walked callee's contract -/
def CtU (Γ : yG) (y : MethodName) (cc : ByteArray) (nL : Nat) (ret : Option FieldType) (L mc ms : Nat) (args : List Value) (G : yH) (Post : Option Value → yH → Prop) : Prop :=
  ∀ (Z : yZ) (Q : State → Prop), YE Γ Z y.cls cc ret [] L mc ms y.name → YF Γ Z Q mc ms Post noX → Y Γ Z 0 0 Q G 0 (yArgs args ++ List.replicate (nL - (yArgs args).length) none) []
/-- how the callee is found -/
def LUU (own : String) (index : Nat) (C owner : String) (x y : MethodName) (cc : ByteArray) (nL : Nat) (ret : Option FieldType) (n : Nat) : Prop := Cond.methodLink own index x ∈ lw_all ∧ Cond.sameMethod x.cls owner x.name x.desc ∈ lw_all ∧ (Cond.declares ⟨owner, x.name, x.desc⟩ ∈ lw_tbl ∨ (Cond.instanceMethod ⟨owner, x.name, x.desc⟩ ∈ lw_all ∧ ∃ b0 m0 r0, Cond.code ⟨owner, x.name, x.desc⟩ b0 m0 r0 ∈ lw_all)) ∧ Cond.selects C x y ∈ lw_all ∧ Cond.instanceMethod y ∈ lw_all ∧ Cond.code y cc nL ret ∈ lw_all ∧ plainFor y = true ∧ (owner ≠ "java/lang/invoke/MethodHandle" ∧ owner ≠ "java/lang/invoke/VarHandle" ∧ (parseMethodDescriptor x.desc).map (fun d => d.parameters.length) = some n) ∧ nL ≤ 100
end ZU
section ZV
variable {Γ : yG} {Z : yZ} {own : String} {cc : ByteArray} {ret : Option FieldType} {hh : List (Nat × Nat × Nat × Nat)} {L mc ms : Nat} {nm : String} {k n : Nat} {Q : State → Prop} {G : yH} {pc : Nat} {lv : List (Option Value)} {st : List Value}
variable {y : MethodName} {cc' : ByteArray} {nL' : Nat} {ret' : Option FieldType} {L' mc' ms' n' : Nat} {As rest : List Value} {Post : Option Value → yH → Prop}
theorem y_callUU (E : YE Γ Z own cc ret hh L mc ms nm) {index ci b : Nat} {C owner : String} {x : MethodName} {t : yT} {fs : List Value} (hd : decode cc pc = .ok (.invokevirtual index, 3)) (hW : LUU own index C owner x y cc' nL' ret' n') (hC : CtU Γ y cc' nL' ret' L' mc' ms' (.ref b :: As) G Post) (hst : st = As.reverse ++ .ref b :: rest) (hG : G b = some (t, .inr (ci, fs))) (hc : (gCl[ci]?).map (fun q => q.1) = some C) (hL : L' < L) (hk : k + mc' ≤ mc) (hn : n + ms' ≤ ms) (hlen : As.length = n') (hcat : (rest.map fun v => v.category).sum ≤ 8) (hal : (yArgs (.ref b :: As)).length ≤ nL') (K : ∀ v G', Post v G' → Y Γ Z (k + mc') (n + ms') Q G' (pc + 3) lv (v.toList ++ rest)) : Y Γ Z k n Q G pc lv st := by
  obtain ⟨w1, w2, w3, w4, w5, w6, hpl, ⟨hm1, hm2, hm3⟩, hnl⟩ := hW
  refine y_run (a := (Value.ref b :: As).toArray) (PX := noX) (fun H locs ls a b' c => ?_) K (fun _ _ _ h => h.elim)
  intro T hT X
  obtain ⟨cellB, hcB, hoB, hclB⟩ := y_recv E a hG hc
  have hroom := y_room E (mc' := mc') (ms' := ms') hL hnl
  have hcells := y_cells E hk hn
  have hword : ∀ w ∈ lw_all, ∀ (a' : Array Value) (U : State), (zs Z).WarmedH U.vm → w.before a' U = true := fun w hw a' U hWm => word_at hWm (good_of_word (List.mem_filter.mp hw).2) (E.w w hw)
  have hdecl : va_Decl (zs Z) ⟨owner, x.name, x.desc⟩ := by
    rcases w3 with w3 | ⟨w3, b0, m0, r0, w3'⟩
    · exact va_Decl.abs (E.kk.2.2.1 _ w3 rfl)
    · exact va_Decl.of (E.w _ w3) (E.w _ w3')
  have hK : vx_Back (yl Γ) (zR Z) (zp Z) (ze Z) (zb Z) (zs Z) (za Z) y 3 8 (PreOf (zR Z) mc' ms' (va_Pc (.ref b :: As) (fun U => KK Γ U ∧ gR Γ G U.heap))) (PostOf (gQ Γ Post) mc' ms' (yA Γ)) (vx_Post (gX Γ noX) mc' ms' (yA Γ)) := by
    refine zu_back (ws := lw_all) (rm := rmOf L' mc' ms') (bytes := cc') (maxL := nL') (ret := ret') hpl ?_ y_blind rfl rfl hroom.1 hroom.2 hword w6
    intro s' mk a2 below' meth' c' hB hws hPc
    obtain ⟨hnm', hmm', hcc2, hbb, hml, hrr, hll, htt⟩ := hB
    obtain ⟨rfl, hkk, hgg⟩ := hPc
    rw [lg_entry_eq]
    refine hC (zp Z, ze Z, rmOf L' mc' ms', s', mk, (Value.ref b :: As).toArray, below', meth', c') _ ⟨E.x, hbb, findClass_of_methodNamed hnm', hws, hkk, hll, hrr, rfl, ?_, (name_of_methodNamed hnm' hmm').1, hgg.1⟩ rfl s'.heap [] _ hgg va_S.rf ?_
    · show c'.exceptionTable.toList = _
      rw [Array.isEmpty_iff.mp htt]
      rfl
    · show hasL _ c'.maxLocals _
      rw [hml]
      exact hasL_entry hal
  rcases vx_callVU X E.x (C := C) (owner := owner) (bytes := cc') (maxL := nL') (ret := ret') E.o (E.w _ w1) (E.w _ w2) hdecl ⟨hm1, hm2⟩ (E.w _ w4) (E.w _ w5) (E.w _ w6) hK (by rw [hT]; exact hcB) hoB hclB rfl c.2.1 (argsL := As) (rest := rest) (fun sig h => by rw [h] at hm3; exact hlen.trans (Option.some.inj hm3).symm) hst (lv_room hcat) (by rw [E.c]; exact hd)
    (fun vm₁ hW₁ => ⟨hcells.1, hcells.2, y_pre E a (T.setVm vm₁) hT hW₁⟩) with ⟨v, vm₁, ⟨U', l2, c2, s2⟩, hW₁, X', ⟨g', mk, t, L, e1, e2, hq, h1, hL, h2, h3⟩, st⟩ | ⟨q, vm₁, ⟨U', l2, c2, s2⟩, hW₁, X', ⟨g', mk, t, L, E, ce, e1, e2, hq, hce, hcv, hcl, h1, hL, h2, h3⟩, st⟩
  · dsimp only [Pt.U, Pt.locs, Pt.cells, Pt.slots] at X' e1 e2 h1 h2 h3 st
    subst h1; subst h2; subst h3
    exact Or.inl ⟨v, (T.setVm vm₁).calling g' mk (Value.ref b :: As).toArray, t, U', L, hT, X', hL, e1, e2, hq, st⟩
  · obtain ⟨⟨_, hq, -⟩, -⟩ := hq
    exact hq.elim
end ZV
