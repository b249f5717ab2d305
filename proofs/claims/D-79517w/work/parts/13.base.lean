/-! ===== the whole-heap layer: abstract heap, judgement Y, contracts Ct ===== -/
section YB
/-- whose a cell is: none: there from the start, never written -/
abbrev yT : Type := Option (Nat × Nat)
abbrev yE : Type := (Nat × vp_A) ⊕ (Nat × List Value)
abbrev yH : Type := Nat → Option (yT × yE)
/-- launch, class numbers, array class numbers, the heap at the law's start, addresses of constants -/
abbrev yG : Type := Launch × va_G × (Nat → ClassId) × Heap × (Nat → Nat)
def yl (Γ : yG) : Launch := Γ.1
def yD (Γ : yG) : va_G := Γ.2.1
def ydA (Γ : yG) : Nat → ClassId := Γ.2.2.1
def yH0 (Γ : yG) : Heap := Γ.2.2.2.1
def yad (Γ : yG) : Nat → Nat := Γ.2.2.2.2
def yN (Γ : yG) : Nat := (yH0 Γ).size
def yV (Γ : yG) (e : yE) : va_E := match e with
  | .inl x => .inl (ydA Γ x.1, x.2)
  | .inr o => .inr o
def gset (G : yH) (a : Nat) (v : yT × yE) : yH := fun q => if q = a then some v else G q
theorem gset_s (G : yH) (a : Nat) (v : yT × yE) : gset G a v a = some v := by simp [gset]
theorem gset_n {G : yH} {a b : Nat} (v : yT × yE) (h : b ≠ a) : gset G a v b = G b := by simp [gset, h]
/-- an unchanged place behind a write elsewhere -/
theorem gs_n {G : yH} {a b : Nat} {v w : yT × yE} (h : b ≠ a) (hb : G b = some w) : gset G a v b = some w := by rw [gset_n v h]; exact hb
/-- places with different entries differ -/
theorem g_ne {G : yH} {a b : Nat} {v w : yT × yE} (ha : G a = some v) (hb : G b = some w) (h : v ≠ w) : a ≠ b := by
  intro e
  subst e
  rw [ha] at hb
  exact h (Option.some.inj hb)
theorem g_nn {G : yH} {a b : Nat} {v : yT × yE} (ha : G a = some v) (hb : G b = none) : a ≠ b := by
  intro e
  subst e
  rw [ha] at hb
  cases hb
def gExt (G G' : yH) : Prop := ∀ q v, G q = some v → G' q = some v
theorem gExt_r (G : yH) : gExt G G := fun _ _ h => h
theorem gExt_t {G G' G'' : yH} (h : gExt G G') (h' : gExt G' G'') : gExt G G'' := fun q v e => h' q v (h q v e)
theorem gExt_n {G : yH} {a : Nat} {v : yT × yE} (h : G a = none) : gExt G (gset G a v) := fun q w e => by
  rw [gset_n v (g_nn e h)]
  exact e
def gR (Γ : yG) (G : yH) (H : Heap) : Prop := yN Γ ≤ H.size ∧ (∀ q : Nat, q < yN Γ → H[q]? = (yH0 Γ)[q]?) ∧ ∀ (q : Nat) (v : yT × yE), G q = some v → (v.1 ≠ none → yN Γ ≤ q) ∧ va_at (yD Γ) gCl (q, yV Γ v.2) H
def yA (Γ : yG) : Nat → Prop := fun q => yN Γ ≤ q
theorem gR_lt {Γ : yG} {G : yH} {H : Heap} (h : gR Γ G H) {q : Nat} {v : yT × yE} (hq : G q = some v) : q < H.size := (h.2.2 q v hq).2.lt
theorem gR_new {Γ : yG} {G : yH} {H : Heap} (h : gR Γ G H) : G H.size = none := by
  cases e : G H.size with
  | none => rfl
  | some v => exact absurd (gR_lt h e) (Nat.lt_irrefl _)
theorem gR_put {Γ : yG} {G : yH} {H H1 : Heap} (h : gR Γ G H) {a : Nat} {v v' : yT × yE} (ha : G a = some v) (hv : v.1 ≠ none) (hz : H1.size = H.size) (ho : ∀ q : Nat, q ≠ a → H1[q]? = H[q]?) (he : va_at (yD Γ) gCl (a, yV Γ v'.2) H1) : gR Γ (gset G a v') H1 := by
  have h0 := (h.2.2 a v ha).1 hv
  refine ⟨by rw [hz]; exact h.1, fun q hq => ?_, fun q w hw => ?_⟩
  · rw [ho q (by omega)]
    exact h.2.1 q hq
  · by_cases e : q = a
    · subst e
      rw [gset_s] at hw
      cases hw
      exact ⟨fun _ => h0, he⟩
    · rw [gset_n v' e] at hw
      exact ⟨(h.2.2 q w hw).1, (h.2.2 q w hw).2.kept (ho q e)⟩
theorem gR_add {Γ : yG} {G : yH} {H H1 : Heap} (h : gR Γ G H) {v : yT × yE} (hz : H1.size = H.size + 1) (ho : ∀ q : Nat, q < H.size → H1[q]? = H[q]?) (he : va_at (yD Γ) gCl (H.size, yV Γ v.2) H1) : gR Γ (gset G H.size v) H1 := by
  refine ⟨by have := h.1; omega, fun q hq => ?_, fun q w hw => ?_⟩
  · rw [ho q (Nat.lt_of_lt_of_le hq h.1)]
    exact h.2.1 q hq
  · by_cases e : q = H.size
    · subst e
      rw [gset_s] at hw
      cases hw
      exact ⟨fun _ => h.1, he⟩
    · rw [gset_n v e] at hw
      exact ⟨(h.2.2 q w hw).1, (h.2.2 q w hw).2.kept (ho q (gR_lt h hw))⟩
/-! the array classes: 0 int, 1 long, 2 byte, 3 char, 4 double, 5 Object, 6 Refusal -/
def gAty (k : Nat) : FieldType := match k with
  | 0 => .int
  | 1 => .long
  | 2 => .byte
  | 3 => .char
  | 4 => .double
  | 5 => .object "java/lang/Object"
  | _ => .object "SkerryLights$Refusal"
def yTys (Γ : yG) : List (ClassId × FieldType) := (List.range 7).map (fun k => (ydA Γ k, gAty k))
theorem yTys_at (Γ : yG) {k : Nat} (h : k < 7) : (yTys Γ)[k]? = some (ydA Γ k, gAty k) := by
  unfold yTys
  rw [List.getElem?_map, List.getElem?_range h]
  rfl
/-- a word of the tables that speaks of nest mates, casts, declarations -/
def nestWord (w : Cond) : Bool := match w with
  | .fieldLinkNest .. => true
  | .methodLinkNest .. => true
  | .castable .. => true
  | .declares .. => true
  | _ => false
theorem nest_warm {w : Cond} (hw : nestWord w = true) {s U : State} (hW : s.WarmedH U.vm) (h : va_Nw w s) : va_Nw w U := by
  cases w <;> first | exact va_Nw.warmF hW h | exact va_Nw.warmM hW h | exact va_Nw.warmC hW h | exact va_Nw.warmD hW h | cases hw
theorem zPv_al {s U : State} {y : MethodName} (ha : s.vm.Alike U.vm) (h : s.PrivateAt y) : U.PrivateAt y := fun mk meth hn hm => h mk meth ((State.methodNamed?_setVm (s := s) ha y).symm.trans hn) (by rw [← ha.method?]; exact hm)
/-- statics and constants that nobody writes -/
def gSt (Γ : yG) (U : State) : Prop :=
  va_Z "SkerryLights$Side" "BOTH" "LSkerryLights$Side;" (.ref (yad Γ 0)) (yA Γ) U (yH0 Γ) ∧
  va_Z "SkerryLights$Side" "LOWER" "LSkerryLights$Side;" (.ref (yad Γ 1)) (yA Γ) U (yH0 Γ) ∧
  va_Z "SkerryLights$Side" "HIGHER" "LSkerryLights$Side;" (.ref (yad Γ 2)) (yA Γ) U (yH0 Γ) ∧
  va_Z "java/util/ArrayList" "DEFAULTCAPACITY_EMPTY_ELEMENTDATA" "[Ljava/lang/Object;" (.ref (yad Γ 3)) (yA Γ) U (yH0 Γ) ∧
  va_Z "java/lang/String" "COMPACT_STRINGS" "Z" (.int 1) (yA Γ) U (yH0 Γ) ∧
  va_Z "java/util/BitSet" "$assertionsDisabled" "Z" (.int 1) (yA Γ) U (yH0 Γ) ∧
  va_Z "java/util/ImmutableCollections" "$assertionsDisabled" "Z" (.int 1) (yA Γ) U (yH0 Γ) ∧
  (∃ r : Option Nat, va_Z "jdk/internal/util/Preconditions" "SIOOBE_FORMATTER" "Ljava/util/function/BiFunction;" (va_rf r) (yA Γ) U (yH0 Γ)) ∧
  (∃ r : Option Nat, va_Z "jdk/internal/util/Preconditions" "IOOBE_FORMATTER" "Ljava/util/function/BiFunction;" (va_rf r) (yA Γ) U (yH0 Γ)) ∧
  vk_R "SkerryLights$Reader" 69 "LDBMSFPN" (yad Γ 4) U ∧
  vx_Zq Bundle.tN "UNASSIGNED_STACK" Bundle.steD (yA Γ) U (yH0 Γ) ∧ vx_Zq Bundle.tN "SUPPRESSED_SENTINEL" Bundle.listD (yA Γ) U (yH0 Γ) ∧
  va_Mi "[Ljava/lang/Object;" (yad Γ 5) U ∧
  (∀ q ∈ gNc, va_Nc q.1 q.2 U) ∧
  (∀ y ∈ gPv, U.PrivateAt y)
theorem gSt_alike {Γ : yG} {s U : State} (ha : s.vm.Alike U.vm) (hv : vk_R "SkerryLights$Reader" 69 "LDBMSFPN" (yad Γ 4) s → vk_R "SkerryLights$Reader" 69 "LDBMSFPN" (yad Γ 4) U) (h : gSt Γ s) : gSt Γ U := by
  obtain ⟨h1, h2, h3, h4, h5, h6, h7, ⟨r8, h8⟩, ⟨r9, h9⟩, h10, h11, h12, h14, h13, h15⟩ := h
  exact ⟨h1.moved ha, h2.moved ha, h3.moved ha, h4.moved ha, h5.moved ha, h6.moved ha, h7.moved ha, ⟨r8, h8.moved ha⟩, ⟨r9, h9.moved ha⟩, hv h10, h11.moved ha, h12.moved ha, h14.moved ha, fun q hq => (h13 q hq).moved ha, fun y hy => zPv_al ha (h15 y hy)⟩
theorem gSt_warm {Γ : yG} {s U : State} (hW : s.WarmedH U.vm) (h : gSt Γ s) : gSt Γ U := gSt_alike hW.alike (fun q => q.warm hW) h
theorem nest_same {w : Cond} (hw : nestWord w = true) {u U : State} (h : u.vm = U.vm) (hZ : va_Nw w u) : va_Nw w U := by
  cases w <;> first | exact va_Nw.same rfl h hZ | cases hw
/-- what holds at every state of the run -/
def KK (Γ : yG) (U : State) : Prop :=
  (yl Γ).stackTraces = false ∧ va_K (yD Γ) gCl (yTys Γ) U ∧ (∀ w ∈ lw_tbl, nestWord w = true → va_Nw w U) ∧ (∀ t ∈ gFw, va_Fw t.1 t.2.1 t.2.2 U) ∧ (∀ C ∈ gAO, va_AO C U) ∧ gSt Γ U

theorem KK_warm {Γ : yG} {s U : State} (hW : s.WarmedH U.vm) (h : KK Γ s) : KK Γ U := by
  obtain ⟨h1, h2, h3, h4, h5, h6⟩ := h
  exact ⟨h1, h2.moved hW.alike, fun w hw hn => nest_warm hn hW (h3 w hw hn), fun t ht => va_Fw.moved (gFw_ok t ht) hW.alike (h4 t ht), fun C hC => va_AO.moved hW.alike (h5 C hC), gSt_warm hW h6⟩
abbrev yZ : Type := Program × Env × Room × State × MethodId × Array Value × List Frame × Method × Code
def zp (Z : yZ) : Program := Z.1
def ze (Z : yZ) : Env := Z.2.1
def zR (Z : yZ) : Room := Z.2.2.1
def zs (Z : yZ) : State := Z.2.2.2.1
def zm (Z : yZ) : MethodId := Z.2.2.2.2.1
def za (Z : yZ) : Array Value := Z.2.2.2.2.2.1
def zb (Z : yZ) : List Frame := Z.2.2.2.2.2.2.1
def zM (Z : yZ) : Method := Z.2.2.2.2.2.2.2.1
def zc (Z : yZ) : Code := Z.2.2.2.2.2.2.2.2
def hasL (ls : Array Slot) (nL : Nat) (lv : List (Option Value)) : Prop := lv.length = nL ∧ ls.size = nL ∧ lv_wf ls ∧ ∀ (i : Nat) (v : Value), lv[i]? = some (some v) → ls[i]? = some (.val v)
/-- at pc, with the abstract heap G, the locals lv, the operand stack st: comes to Q; k cells of n slots were made so far -/
def Y (Γ : yG) (Z : yZ) (k n : Nat) (Q : State → Prop) (G : yH) (pc : Nat) (lv : List (Option Value)) (st : List Value) : Prop :=
  ∀ (H : Heap) (locs : List Loc) (ls : Array Slot), gR Γ G H → va_S (yA Γ) (zs Z).heap H locs → hasL ls (zc Z).maxLocals lv → W (zp Z) (yl Γ) (ze Z) (zR Z) (zs Z) (zm Z) (za Z) (zb Z) (zM Z) (zc Z) H locs k n Q (F0 (zm Z) pc ls st)
/-- the exception q of the class E is thrown at pc -/
def Yx (Γ : yG) (Z : yZ) (k n : Nat) (Q : State → Prop) (G : yH) (pc : Nat) (lv : List (Option Value)) (E : String) (q : Nat) : Prop :=
  ∀ (H : Heap) (locs : List Loc) (ls : Array Slot) (rest : List Value) (ce : Cell), gR Γ G H → va_S (yA Γ) (zs Z).heap H locs → hasL ls (zc Z).maxLocals lv → H[q]? = some ce → ce.vm = .none → (zs Z).vm.findClass E = some ce.cls → vx_W (zp Z) (yl Γ) (ze Z) (zR Z) (zs Z) (zm Z) (za Z) (zb Z) (zM Z) (zc Z) H locs k n Q (F0 (zm Z) pc ls rest) q
def rmOf (L mc ms : Nat) : Room := { frames := 8 * L, cells := mc, slots := ms, locals := 200 * L }
/-- the surroundings of a method's body -/
def YE (Γ : yG) (Z : yZ) (own : String) (cc : ByteArray) (ret : Option FieldType) (hh : List (Nat × Nat × Nat × Nat)) (L mc ms : Nat) (nm : String) : Prop :=
  (zp Z).tables.exec = Jvm.exec ∧ (zc Z).code = cc ∧ (zs Z).vm.findClass own = some (zm Z).cls ∧ (∀ w ∈ lw_all, w.before (za Z) (zs Z) = true) ∧ KK Γ (zs Z) ∧ (zM Z).locks = false ∧ (zM Z).sig.returnType = ret ∧ zR Z = rmOf L mc ms ∧ (zc Z).exceptionTable.toList = tableOf hh ∧ (zM Z).name = nm ∧ yN Γ ≤ (zs Z).heap.size
def gQ (Γ : yG) (Post : Option Value → yH → Prop) : Array Value → State → Outcome → State → Prop := fun _ st o t => (∃ v G', o = .returned v ∧ Post v G' ∧ gR Γ G' t.heap) ∧ va_F (yA Γ) st t
def gX (Γ : yG) (PX : String → yH → Prop) : String → State → State → Prop := fun E st t => (∃ G', PX E G' ∧ gR Γ G' t.heap) ∧ va_F (yA Γ) st t
def YF (Γ : yG) (Z : yZ) (Q : State → Prop) (mc ms : Nat) (Post : Option Value → yH → Prop) (PX : String → yH → Prop) : Prop := Q = vx_MQ (zb Z) (gQ Γ Post) (gX Γ PX) (za Z) (zs Z) mc ms (yA Γ)
/-- a method's contract -/
def Ct (Γ : yG) (y : MethodName) (cc : ByteArray) (nL : Nat) (ret : Option FieldType) (L mc ms : Nat) (args : List Value) (G : yH) (Post : Option Value → yH → Prop) (PX : String → yH → Prop) : Prop :=
  vx_Met (yl Γ) y (ws_ y cc nL ret) (rmOf L mc ms) (va_Pc args (fun U => KK Γ U ∧ gR Γ G U.heap)) (gQ Γ Post) (gX Γ PX) mc ms (yA Γ)
/-- .. of a method with handlers -/
def CtW (Γ : yG) (y : MethodName) (cc : ByteArray) (nL : Nat) (ret : Option FieldType) (hh : List (Nat × Nat × Nat × Nat)) (L mc ms : Nat) (args : List Value) (G : yH) (Post : Option Value → yH → Prop) (PX : String → yH → Prop) : Prop :=
  vx_Met (yl Γ) y (wsW_ y cc nL ret hh) (rmOf L mc ms) (va_Pc args (fun U => KK Γ U ∧ gR Γ G U.heap)) (gQ Γ Post) (gX Γ PX) mc ms (yA Γ)
/-- throws nothing -/
def noX : String → yH → Prop := fun _ _ => False
section YRows
variable {Γ : yG} {Z : yZ} {own : String} {cc : ByteArray} {ret : Option FieldType} {hh : List (Nat × Nat × Nat × Nat)} {L mc ms : Nat} {nm : String} {k n : Nat} {Q : State → Prop} {G : yH} {pc : Nat} {lv : List (Option Value)} {st : List Value}
theorem YE.x (E : YE Γ Z own cc ret hh L mc ms nm) : (zp Z).tables.exec = Jvm.exec := E.1
theorem YE.c (E : YE Γ Z own cc ret hh L mc ms nm) : (zc Z).code = cc := E.2.1
theorem YE.o (E : YE Γ Z own cc ret hh L mc ms nm) : (zs Z).vm.findClass own = some (zm Z).cls := E.2.2.1
theorem YE.w (E : YE Γ Z own cc ret hh L mc ms nm) : ∀ w ∈ lw_all, w.before (za Z) (zs Z) = true := E.2.2.2.1
theorem YE.kk (E : YE Γ Z own cc ret hh L mc ms nm) : KK Γ (zs Z) := E.2.2.2.2.1
theorem YE.lk (E : YE Γ Z own cc ret hh L mc ms nm) : (zM Z).locks = false := E.2.2.2.2.2.1
theorem YE.r (E : YE Γ Z own cc ret hh L mc ms nm) : (zM Z).sig.returnType = ret := E.2.2.2.2.2.2.1
theorem YE.R (E : YE Γ Z own cc ret hh L mc ms nm) : zR Z = rmOf L mc ms := E.2.2.2.2.2.2.2.1
theorem YE.t (E : YE Γ Z own cc ret hh L mc ms nm) : (zc Z).exceptionTable.toList = tableOf hh := E.2.2.2.2.2.2.2.2.1
theorem YE.nn (E : YE Γ Z own cc ret hh L mc ms nm) : (zM Z).name = nm := E.2.2.2.2.2.2.2.2.2.1
theorem YE.N (E : YE Γ Z own cc ret hh L mc ms nm) : yN Γ ≤ (zs Z).heap.size := E.2.2.2.2.2.2.2.2.2.2
theorem YE.K (E : YE Γ Z own cc ret hh L mc ms nm) : va_K (yD Γ) gCl (yTys Γ) (zs Z) := E.kk.2.1
theorem YE.rc (E : YE Γ Z own cc ret hh L mc ms nm) : (zR Z).cells = mc := by rw [E.R]; rfl
theorem YE.rs (E : YE Γ Z own cc ret hh L mc ms nm) : (zR Z).slots = ms := by rw [E.R]; rfl
theorem YE.rf (E : YE Γ Z own cc ret hh L mc ms nm) : (zR Z).frames = 8 * L := by rw [E.R]; rfl
theorem YE.rl (E : YE Γ Z own cc ret hh L mc ms nm) : (zR Z).locals = 200 * L := by rw [E.R]; rfl
/-! the start of a body -/
/-- the places of the arguments -/
def yArgs : List Value → List (Option Value)
  | [] => []
  | v :: r => if v.category = 2 then some v :: none :: yArgs r else some v :: yArgs r
theorem yArgs_len : ∀ vs : List Value, (yArgs vs).length = (lg_sl vs).length
  | [] => rfl
  | v :: r => by
    have ih := yArgs_len r
    by_cases h : v.category = 2
    · simp [yArgs, lg_sl, h] at ih ⊢
      omega
    · simp [yArgs, lg_sl, h] at ih ⊢
      omega
theorem yArgs_at : ∀ (vs : List Value) (i : Nat) (v : Value), (yArgs vs)[i]? = some (some v) → (lg_sl vs)[i]? = some (.val v)
  | [], i, v, h => by simp [yArgs] at h
  | x :: r, i, v, h => by
    have ih := yArgs_at r
    by_cases hc : x.category = 2
    · simp only [yArgs, hc, if_true] at h
      have e : lg_sl (x :: r) = .val x :: .second :: lg_sl r := by simp [lg_sl, hc]
      rw [e]
      match i, h with
      | 0, h => simpa using h
      | 1, h => simp at h
      | i + 2, h => simpa using ih i v (by simpa using h)
    · simp only [yArgs, hc, if_false] at h
      have e : lg_sl (x :: r) = .val x :: lg_sl r := by simp [lg_sl, hc]
      rw [e]
      match i, h with
      | 0, h => simpa using h
      | i + 1, h => simpa using ih i v (by simpa using h)
theorem hasL_entry {vs : List Value} {nL : Nat} (h : (yArgs vs).length ≤ nL) : hasL ((lg_sl vs ++ List.replicate (nL - (lg_sl vs).length) Slot.unset).toArray) nL (yArgs vs ++ List.replicate (nL - (yArgs vs).length) none) := by
  have hlen := yArgs_len vs
  obtain ⟨h1, h2, -⟩ := lv_entry vs (n := nL) (by omega)
  refine ⟨by simp; omega, h1, h2, fun i v hi => ?_⟩
  by_cases hlt : i < (yArgs vs).length
  · rw [List.getElem?_append_left hlt] at hi
    have := yArgs_at vs i v hi
    rw [List.getElem?_toArray, List.getElem?_append_left (by omega)]
    exact this
  · rw [List.getElem?_append_right (by omega)] at hi
    have := List.mem_of_getElem? hi
    rw [List.mem_replicate] at this
    cases this.2
theorem tableOf_nil {x : ExceptionTableEntry} (h : x ∈ tableOf []) : False := by simp [tableOf] at h
theorem y_start {y : MethodName} {nL : Nat} {args : List Value} {lv0 : List (Option Value)} {Post : Option Value → yH → Prop} {PX : String → yH → Prop} (hy : plainName y.cls = true) (ho : y.cls = own) (hnm : y.name = nm) (hlen : (yArgs args).length ≤ nL) (hlv : yArgs args ++ List.replicate (nL - (yArgs args).length) none = lv0)
    (body : ∀ (Z : yZ) (Q : State → Prop), YE Γ Z own cc ret [] L mc ms nm → YF Γ Z Q mc ms Post PX → Y Γ Z 0 0 Q G 0 lv0 []) : Ct Γ y cc nL ret L mc ms args G Post PX := by
  subst hlv
  refine vx_ofW (cc := cc) (maxL := nL) (ret := ret) hy rfl ?_
  intro p e s m as below meth c s₁ B hml ht hv
  obtain ⟨rfl, hk, hg⟩ := hv
  rw [lg_entry_eq]
  have hts := atoms_spec (ws := ws_ y cc nL ret) B.pre
  refine body (p, e, (headSpec (ws_ y cc nL ret) (rmOf L mc ms)).room, s, m, args.toArray, below, meth, c) _ ⟨B.exec, B.bytes, by rw [← ho]; exact findClass_of_methodNamed B.named, fun w h => hts w (List.mem_cons_of_mem _ h), hk, B.notSynchronized, B.returns, rfl, ?_, ?_, hg.1⟩ rfl s.heap [] _ hg va_S.rf ?_
  · cases hc : c.exceptionTable.toList with
    | nil => exact hc.trans rfl
    | cons x r => exact (ht x (by rw [hc]; exact List.mem_cons_self)).elim
  · rw [← hnm]; exact (name_of_methodNamed B.named B.method).1
  · show hasL _ c.maxLocals _
    rw [hml]
    exact hasL_entry hlen
theorem y_startW {y : MethodName} {nL : Nat} {args : List Value} {lv0 : List (Option Value)} {Post : Option Value → yH → Prop} {PX : String → yH → Prop} (hy : plainName y.cls = true) (ho : y.cls = own) (hnm : y.name = nm) (hlen : (yArgs args).length ≤ nL) (hlv : yArgs args ++ List.replicate (nL - (yArgs args).length) none = lv0)
    (body : ∀ (Z : yZ) (Q : State → Prop), YE Γ Z own cc ret hh L mc ms nm → YF Γ Z Q mc ms Post PX → Y Γ Z 0 0 Q G 0 lv0 []) : CtW Γ y cc nL ret hh L mc ms args G Post PX := by
  subst hlv
  refine vx_ofWH (cc := cc) (maxL := nL) (ret := ret) (hh := hh) hy rfl ?_
  intro p e s m as below meth c s₁ B hml hv
  obtain ⟨rfl, hk, hg⟩ := hv
  rw [lg_entry_eq]
  have hts := atoms_spec (ws := wsW_ y cc nL ret hh) B.pre
  refine body (p, e, (headSpec (wsW_ y cc nL ret hh) (rmOf L mc ms)).room, s, m, args.toArray, below, meth, c) _ ⟨B.exec, B.bytes, by rw [← ho]; exact findClass_of_methodNamed B.named, fun w h => hts w (List.mem_cons_of_mem _ h), hk, B.notSynchronized, B.returns, rfl, ?_, ?_, hg.1⟩ rfl s.heap [] _ hg va_S.rf ?_
  · exact vx_table (x := y) B (hts _ List.mem_cons_self)
  · rw [← hnm]; exact (name_of_methodNamed B.named B.method).1
  · show hasL _ c.maxLocals _
    rw [hml]
    exact hasL_entry hlen
/-! rows of stack and locals -/
theorem y_eq {st' : List Value} (h : st = st') (K : Y Γ Z k n Q G pc lv st') : Y Γ Z k n Q G pc lv st := by rw [h]; exact K
theorem y_top {v v' : Value} (h : v = v') (K : Y Γ Z k n Q G pc lv (v' :: st)) : Y Γ Z k n Q G pc lv (v :: st) := by rw [h]; exact K
theorem y_lv {lv' : List (Option Value)} (h : lv = lv') (K : Y Γ Z k n Q G pc lv' st) : Y Γ Z k n Q G pc lv st := by rw [h]; exact K
theorem y_widen {k' n' : Nat} (h1 : k ≤ k') (h2 : n ≤ n') (K : Y Γ Z k' n' Q G pc lv st) : Y Γ Z k n Q G pc lv st := fun H locs ls a b c => W.widen h1 h2 (K H locs ls a b c)
theorem y_iconst (E : YE Γ Z own cc ret hh L mc ms nm) {v : Int} (hd : decode cc pc = .ok (.iconst v, 1)) (K : Y Γ Z k n Q G (pc + 1) lv (.int (iI v) :: st)) : Y Γ Z k n Q G pc lv st := fun H locs ls a b c => lv_iconst E.x E.c hd rfl (K H locs ls a b c)
theorem y_bipush (E : YE Γ Z own cc ret hh L mc ms nm) {v : Int} (hd : decode cc pc = .ok (.bipush v, 2)) (hv : (Int8.ofInt v).toInt32 = iI v) (K : Y Γ Z k n Q G (pc + 2) lv (.int (iI v) :: st)) : Y Γ Z k n Q G pc lv st := fun H locs ls a b c => lv_bipush E.x E.c hd hv (K H locs ls a b c)
theorem y_sipush (E : YE Γ Z own cc ret hh L mc ms nm) {v : Int} (hd : decode cc pc = .ok (.sipush v, 3)) (hv : (Int16.ofInt v).toInt32 = iI v) (K : Y Γ Z k n Q G (pc + 3) lv (.int (iI v) :: st)) : Y Γ Z k n Q G pc lv st := fun H locs ls a b c => lv_sipush E.x E.c hd hv (K H locs ls a b c)
theorem y_ldc (E : YE Γ Z own cc ret hh L mc ms nm) {i : Nat} {v : Int32} (hq : Jvm.Cond.constant own i v ∈ lw_all) (hd : decode cc pc = .ok (.ldc i, 2)) (K : Y Γ Z k n Q G (pc + 2) lv (.int v :: st)) : Y Γ Z k n Q G pc lv st := fun H locs ls a b c => lv_ldc E.x E.c E.o (E.w _ hq) hd (K H locs ls a b c)
theorem y_lconst (E : YE Γ Z own cc ret hh L mc ms nm) {v : Fin 2} (hd : decode cc pc = .ok (.lconst v, 1)) (K : Y Γ Z k n Q G (pc + 1) lv (.long (lN v.val) :: st)) : Y Γ Z k n Q G pc lv st := fun H locs ls a b c => lv_lconst E.x E.c hd rfl (K H locs ls a b c)
theorem y_ldc2 (E : YE Γ Z own cc ret hh L mc ms nm) {i : Nat} {v : Int64} (hq : Jvm.Cond.constantLong own i v ∈ lw_all) (hd : decode cc pc = .ok (.ldc2_w i, 3)) (K : Y Γ Z k n Q G (pc + 3) lv (.long v :: st)) : Y Γ Z k n Q G pc lv st := fun H locs ls a b c => lv_ldc2 E.x E.c E.o (E.w _ hq) hd (K H locs ls a b c)
theorem y_ldcf (E : YE Γ Z own cc ret hh L mc ms nm) {i : Nat} {v : UInt32} (hq : Jvm.Cond.constantFloat own i v ∈ lw_all) (hd : decode cc pc = .ok (.ldc i, 2)) (K : Y Γ Z k n Q G (pc + 2) lv (.float v :: st)) : Y Γ Z k n Q G pc lv st := fun H locs ls a b c => lv_ldcf E.x E.c E.o (E.w _ hq) hd (K H locs ls a b c)
theorem y_null (E : YE Γ Z own cc ret hh L mc ms nm) (hd : decode cc pc = .ok (.aconst_null, 1)) (K : Y Γ Z k n Q G (pc + 1) lv (.null :: st)) : Y Γ Z k n Q G pc lv st := fun H locs ls a b c => lv_null E.x E.c hd (K H locs ls a b c)
theorem y_iload_n (E : YE Γ Z own cc ret hh L mc ms nm) {i : Fin 4} {x : Int32} (hd : decode cc pc = .ok (.iload_n i, 1)) (h : lv[i.val]? = some (some (.int x))) (K : Y Γ Z k n Q G (pc + 1) lv (.int x :: st)) : Y Γ Z k n Q G pc lv st := fun H locs ls a b c => lv_iload_n E.x E.c hd rfl (c.2.2.2 _ _ h) (K H locs ls a b c)
theorem y_iload (E : YE Γ Z own cc ret hh L mc ms nm) {i : Nat} {x : Int32} (hd : decode cc pc = .ok (.iload i, 2)) (h : lv[i]? = some (some (.int x))) (K : Y Γ Z k n Q G (pc + 2) lv (.int x :: st)) : Y Γ Z k n Q G pc lv st := fun H locs ls a b c => lv_iload E.x E.c hd (c.2.2.2 _ _ h) (K H locs ls a b c)
theorem y_lload_n (E : YE Γ Z own cc ret hh L mc ms nm) {i : Fin 4} {x : Int64} (hd : decode cc pc = .ok (.lload_n i, 1)) (h : lv[i.val]? = some (some (.long x))) (K : Y Γ Z k n Q G (pc + 1) lv (.long x :: st)) : Y Γ Z k n Q G pc lv st := fun H locs ls a b c => lv_lload_n E.x E.c hd rfl (c.2.2.2 _ _ h) (K H locs ls a b c)
theorem y_lload (E : YE Γ Z own cc ret hh L mc ms nm) {i : Nat} {x : Int64} (hd : decode cc pc = .ok (.lload i, 2)) (h : lv[i]? = some (some (.long x))) (K : Y Γ Z k n Q G (pc + 2) lv (.long x :: st)) : Y Γ Z k n Q G pc lv st := fun H locs ls a b c => lv_lload E.x E.c hd (c.2.2.2 _ _ h) (K H locs ls a b c)
theorem y_dload_n (E : YE Γ Z own cc ret hh L mc ms nm) {i : Fin 4} {x : UInt64} (hd : decode cc pc = .ok (.dload_n i, 1)) (h : lv[i.val]? = some (some (.double x))) (K : Y Γ Z k n Q G (pc + 1) lv (.double x :: st)) : Y Γ Z k n Q G pc lv st := fun H locs ls a b c => lv_dload_n E.x E.c hd rfl (c.2.2.2 _ _ h) (K H locs ls a b c)
theorem y_dload (E : YE Γ Z own cc ret hh L mc ms nm) {i : Nat} {x : UInt64} (hd : decode cc pc = .ok (.dload i, 2)) (h : lv[i]? = some (some (.double x))) (K : Y Γ Z k n Q G (pc + 2) lv (.double x :: st)) : Y Γ Z k n Q G pc lv st := fun H locs ls a b c => lv_dload E.x E.c hd (c.2.2.2 _ _ h) (K H locs ls a b c)
theorem y_aload_n (E : YE Γ Z own cc ret hh L mc ms nm) {i : Fin 4} {r : Option Nat} (hd : decode cc pc = .ok (.aload_n i, 1)) (h : lv[i.val]? = some (some (va_rf r))) (K : Y Γ Z k n Q G (pc + 1) lv (va_rf r :: st)) : Y Γ Z k n Q G pc lv st := fun H locs ls a b c => by
  cases r with
  | none => exact lv_aload_nN E.x E.c hd rfl (c.2.2.2 _ _ h) (K H locs ls a b c)
  | some x => exact lv_aload_n E.x E.c hd rfl (c.2.2.2 _ _ h) (K H locs ls a b c)
theorem y_aload (E : YE Γ Z own cc ret hh L mc ms nm) {i : Nat} {r : Option Nat} (hd : decode cc pc = .ok (.aload i, 2)) (h : lv[i]? = some (some (va_rf r))) (K : Y Γ Z k n Q G (pc + 2) lv (va_rf r :: st)) : Y Γ Z k n Q G pc lv st := fun H locs ls a b c => by
  cases r with
  | none => exact lv_aloadN E.x E.c hd (c.2.2.2 _ _ h) (K H locs ls a b c)
  | some x => exact lv_aload E.x E.c hd (c.2.2.2 _ _ h) (K H locs ls a b c)
theorem y_ald_n (E : YE Γ Z own cc ret hh L mc ms nm) {i : Fin 4} {r : Nat} (hd : decode cc pc = .ok (.aload_n i, 1)) (h : lv[i.val]? = some (some (.ref r))) (K : Y Γ Z k n Q G (pc + 1) lv (.ref r :: st)) : Y Γ Z k n Q G pc lv st := y_aload_n (r := some r) E hd h K
theorem y_ald (E : YE Γ Z own cc ret hh L mc ms nm) {i : Nat} {r : Nat} (hd : decode cc pc = .ok (.aload i, 2)) (h : lv[i]? = some (some (.ref r))) (K : Y Γ Z k n Q G (pc + 2) lv (.ref r :: st)) : Y Γ Z k n Q G pc lv st := y_aload (r := some r) E hd h K
/-! stores -/
def lkill (x : Option Value) : Option Value := match x with
  | some (.long _) => none
  | some (.double _) => none
  | x => x
def lst1 (v : Value) : List (Option Value) → Nat → List (Option Value)
  | [], _ => []
  | _ :: r, 0 => some v :: r
  | x :: r, 1 => lkill x :: lst1 v r 0
  | x :: r, i + 2 => x :: lst1 v r (i + 1)
def lst2 (v : Value) : List (Option Value) → Nat → List (Option Value)
  | [], _ => []
  | [_], 0 => []
  | _ :: _ :: r, 0 => some v :: none :: r
  | x :: r, 1 => lkill x :: lst2 v r 0
  | x :: r, i + 2 => x :: lst2 v r (i + 1)
theorem lkill_rf (r : Option Nat) : lkill (some (va_rf r)) = some (va_rf r) := by cases r <;> rfl
theorem lkill_some {x : Option Value} {w : Value} (h : lkill x = some w) : x = some w ∧ ¬ w.category = 2 := by
  match x, h with
  | some (.long _), h => cases h
  | some (.double _), h => cases h
  | some (.int _), h => cases h; exact ⟨rfl, by simp [Value.category]⟩
  | some (.float _), h => cases h; exact ⟨rfl, by simp [Value.category]⟩
  | some (.ref _), h => cases h; exact ⟨rfl, by simp [Value.category]⟩
  | some .null, h => cases h; exact ⟨rfl, by simp [Value.category]⟩
  | some (.retAddr _), h => cases h; exact ⟨rfl, by simp [Value.category]⟩
  | none, h => cases h
theorem lst1_len (v : Value) : ∀ (lv : List (Option Value)) (i : Nat), (lst1 v lv i).length = lv.length
  | [], _ => rfl
  | _ :: _, 0 => rfl
  | x :: r, 1 => by simp only [lst1, List.length_cons, lst1_len v r 0]
  | x :: r, i + 2 => by simp only [lst1, List.length_cons, lst1_len v r (i + 1)]
theorem lst1_at (v : Value) : ∀ (lv : List (Option Value)) (i j : Nat) (w : Value), (lst1 v lv i)[j]? = some (some w) → (j = i ∧ w = v) ∨ (j ≠ i ∧ lv[j]? = some (some w) ∧ ¬ (j + 1 = i ∧ w.category = 2))
  | [], i, j, w, h => by simp [lst1] at h
  | x :: r, 0, j, w, h => by
    match j, h with
    | 0, h => simp [lst1] at h; exact Or.inl ⟨rfl, h.symm⟩
    | j + 1, h => exact Or.inr ⟨by omega, by simpa [lst1] using h, by omega⟩
  | x :: r, 1, j, w, h => by
    match j, h with
    | 0, h =>
      simp only [lst1, List.getElem?_cons_zero, Option.some.injEq] at h
      obtain ⟨h1, h2⟩ := lkill_some h
      exact Or.inr ⟨by omega, by simp [h1], fun q => h2 q.2⟩
    | j + 1, h =>
      simp only [lst1, List.getElem?_cons_succ] at h
      rcases lst1_at v r 0 j w h with ⟨h1, h2⟩ | ⟨h1, h2, h3⟩
      · exact Or.inl ⟨by omega, h2⟩
      · exact Or.inr ⟨by omega, by simpa using h2, by omega⟩
  | x :: r, i + 2, j, w, h => by
    match j, h with
    | 0, h => exact Or.inr ⟨by omega, by simpa [lst1] using h, by omega⟩
    | j + 1, h =>
      simp only [lst1, List.getElem?_cons_succ] at h
      rcases lst1_at v r (i + 1) j w h with ⟨h1, h2⟩ | ⟨h1, h2, h3⟩
      · exact Or.inl ⟨by omega, h2⟩
      · exact Or.inr ⟨by omega, by simpa using h2, fun q => h3 ⟨by omega, q.2⟩⟩
theorem lst2_len (v : Value) : ∀ (lv : List (Option Value)) (i : Nat), i + 1 < lv.length → (lst2 v lv i).length = lv.length
  | [], _, h => by simp at h
  | [_], 0, h => by simp at h
  | _ :: _ :: _, 0, _ => rfl
  | x :: r, 1, h => by simp only [lst2, List.length_cons, lst2_len v r 0 (by simp at h; omega)]
  | x :: r, i + 2, h => by simp only [lst2, List.length_cons, lst2_len v r (i + 1) (by simp at h; omega)]
theorem lst2_at (v : Value) : ∀ (lv : List (Option Value)) (i j : Nat) (w : Value), (lst2 v lv i)[j]? = some (some w) → (j = i ∧ w = v) ∨ (j ≠ i ∧ j ≠ i + 1 ∧ lv[j]? = some (some w) ∧ ¬ (j + 1 = i ∧ w.category = 2))
  | [], i, j, w, h => by simp [lst2] at h
  | [_], 0, j, w, h => by simp [lst2] at h
  | x :: y :: r, 0, j, w, h => by
    match j, h with
    | 0, h => simp [lst2] at h; exact Or.inl ⟨rfl, h.symm⟩
    | 1, h => simp [lst2] at h
    | j + 2, h => exact Or.inr ⟨by omega, by omega, by simpa [lst2] using h, by omega⟩
  | x :: r, 1, j, w, h => by
    match j, h with
    | 0, h =>
      simp only [lst2, List.getElem?_cons_zero, Option.some.injEq] at h
      obtain ⟨h1, h2⟩ := lkill_some h
      exact Or.inr ⟨by omega, by omega, by simp [h1], fun q => h2 q.2⟩
    | j + 1, h =>
      simp only [lst2, List.getElem?_cons_succ] at h
      rcases lst2_at v r 0 j w h with ⟨h1, h2⟩ | ⟨h1, h2, h3, h4⟩
      · exact Or.inl ⟨by omega, h2⟩
      · exact Or.inr ⟨by omega, by omega, by simpa using h3, by omega⟩
  | x :: r, i + 2, j, w, h => by
    match j, h with
    | 0, h => exact Or.inr ⟨by omega, by omega, by simpa [lst2] using h, by omega⟩
    | j + 1, h =>
      simp only [lst2, List.getElem?_cons_succ] at h
      rcases lst2_at v r (i + 1) j w h with ⟨h1, h2⟩ | ⟨h1, h2, h3, h4⟩
      · exact Or.inl ⟨by omega, h2⟩
      · exact Or.inr ⟨by omega, by omega, by simpa using h3, fun q => h4 ⟨by omega, q.2⟩⟩
/-- the known locals, listed -/
def lvp (lv : List (Option Value)) : List (Nat × Value) := (List.range lv.length).filterMap (fun i => match lv[i]? with | some (some v) => some (i, v) | _ => none)
theorem lvp_mem {lv : List (Option Value)} {q : Nat × Value} : q ∈ lvp lv ↔ lv[q.1]? = some (some q.2) := by
  unfold lvp
  rw [List.mem_filterMap]
  constructor
  · rintro ⟨i, hi, h⟩
    split at h
    · cases h; assumption
    · cases h
  · intro h
    refine ⟨q.1, ?_, ?_⟩
    · rw [List.mem_range]
      exact (List.getElem?_eq_some_iff.mp h).1
    · rw [h]
theorem hasL.pr {ls : Array Slot} {nL : Nat} (h : hasL ls nL lv) : lv_has ls nL (lvp lv) := ⟨h.2.1, h.2.2.1, fun q hq => h.2.2.2 q.1 q.2 (lvp_mem.mp hq)⟩
theorem hasL.s1 {ls : Array Slot} {nL i : Nat} {v : Value} (hl : lv.length = nL) (h : lv_has ls nL ((i, v) :: (lvp lv).filter (fun q => !(q.1 == i) && !(q.1 + 1 == i && q.2.category == 2)))) : hasL ls nL (lst1 v lv i) := by
  refine ⟨by rw [lst1_len]; exact hl, h.1, h.2.1, fun j w hj => ?_⟩
  rcases lst1_at v lv i j w hj with ⟨h1, h2⟩ | ⟨h1, h2, h3⟩
  · subst h1; subst h2
    exact h.2.2 (j, w) List.mem_cons_self
  · refine h.2.2 (j, w) (List.mem_cons_of_mem _ (List.mem_filter.mpr ⟨lvp_mem.mpr h2, ?_⟩))
    simp only [Bool.and_eq_true, Bool.not_eq_true', beq_eq_false_iff_ne, Bool.and_eq_false_iff, ne_eq]
    refine ⟨h1, ?_⟩
    by_cases q : j + 1 = i
    · exact Or.inr (fun z => h3 ⟨q, z⟩)
    · exact Or.inl q
theorem hasL.s2 {ls : Array Slot} {nL i : Nat} {v : Value} (hl : lv.length = nL) (hi : i + 1 < nL) (h : lv_has ls nL ((i, v) :: (lvp lv).filter (fun q => !(q.1 == i) && (!(q.1 == i + 1) && !(q.1 + 1 == i && q.2.category == 2))))) : hasL ls nL (lst2 v lv i) := by
  refine ⟨by rw [lst2_len v lv i (by omega)]; exact hl, h.1, h.2.1, fun j w hj => ?_⟩
  rcases lst2_at v lv i j w hj with ⟨h1, h2⟩ | ⟨h1, h2, h3, h4⟩
  · subst h1; subst h2
    exact h.2.2 (j, w) List.mem_cons_self
  · refine h.2.2 (j, w) (List.mem_cons_of_mem _ (List.mem_filter.mpr ⟨lvp_mem.mpr h3, ?_⟩))
    simp only [Bool.and_eq_true, Bool.not_eq_true', beq_eq_false_iff_ne, Bool.and_eq_false_iff, ne_eq]
    refine ⟨h1, h2, ?_⟩
    by_cases q : j + 1 = i
    · exact Or.inr (fun z => h4 ⟨q, z⟩)
    · exact Or.inl q

theorem y_istore (E : YE Γ Z own cc ret hh L mc ms nm) {i : Nat} {x : Int32} (hd : decode cc pc = .ok (.istore i, 2)) (hi : i < lv.length) (K : Y Γ Z k n Q G (pc + 2) (lst1 (.int x) lv i) st) : Y Γ Z k n Q G pc lv (.int x :: st) := fun H locs ls a b c => lv_istore E.x E.c hd c.pr (by rw [← c.1]; exact hi) rfl (fun ls' h' => K H locs ls' a b (hasL.s1 c.1 h'))
theorem y_istore_n (E : YE Γ Z own cc ret hh L mc ms nm) {i : Fin 4} {j : Nat} {x : Int32} (hd : decode cc pc = .ok (.istore_n i, 1)) (hj : i.val = j) (hi : j < lv.length) (K : Y Γ Z k n Q G (pc + 1) (lst1 (.int x) lv j) st) : Y Γ Z k n Q G pc lv (.int x :: st) := fun H locs ls a b c => lv_istore_n E.x E.c hd hj c.pr (by rw [← c.1]; exact hi) rfl (fun ls' h' => K H locs ls' a b (hasL.s1 c.1 h'))
theorem y_astore (E : YE Γ Z own cc ret hh L mc ms nm) {i : Nat} {r : Option Nat} (hd : decode cc pc = .ok (.astore i, 2)) (hi : i < lv.length) (K : Y Γ Z k n Q G (pc + 2) (lst1 (va_rf r) lv i) st) : Y Γ Z k n Q G pc lv (va_rf r :: st) := fun H locs ls a b c => by
  cases r with
  | none => exact lv_astoreN E.x E.c hd c.pr (by rw [← c.1]; exact hi) rfl (fun ls' h' => K H locs ls' a b (hasL.s1 c.1 h'))
  | some x => exact lv_astore E.x E.c hd c.pr (by rw [← c.1]; exact hi) rfl (fun ls' h' => K H locs ls' a b (hasL.s1 c.1 h'))
theorem y_astore_n (E : YE Γ Z own cc ret hh L mc ms nm) {i : Fin 4} {j : Nat} {r : Option Nat} (hd : decode cc pc = .ok (.astore_n i, 1)) (hj : i.val = j) (hi : j < lv.length) (K : Y Γ Z k n Q G (pc + 1) (lst1 (va_rf r) lv j) st) : Y Γ Z k n Q G pc lv (va_rf r :: st) := fun H locs ls a b c => by
  cases r with
  | none => exact lv_astore_nN E.x E.c hd hj c.pr (by rw [← c.1]; exact hi) rfl (fun ls' h' => K H locs ls' a b (hasL.s1 c.1 h'))
  | some x => exact lv_astore_n E.x E.c hd hj c.pr (by rw [← c.1]; exact hi) rfl (fun ls' h' => K H locs ls' a b (hasL.s1 c.1 h'))
theorem y_ast (E : YE Γ Z own cc ret hh L mc ms nm) {i : Nat} {r : Nat} (hd : decode cc pc = .ok (.astore i, 2)) (hi : i < lv.length) (K : Y Γ Z k n Q G (pc + 2) (lst1 (.ref r) lv i) st) : Y Γ Z k n Q G pc lv (.ref r :: st) := y_astore (r := some r) E hd hi K
theorem y_ast_n (E : YE Γ Z own cc ret hh L mc ms nm) {i : Fin 4} {j : Nat} {r : Nat} (hd : decode cc pc = .ok (.astore_n i, 1)) (hj : i.val = j) (hi : j < lv.length) (K : Y Γ Z k n Q G (pc + 1) (lst1 (.ref r) lv j) st) : Y Γ Z k n Q G pc lv (.ref r :: st) := y_astore_n (r := some r) E hd hj hi K
theorem y_lstore (E : YE Γ Z own cc ret hh L mc ms nm) {i : Nat} {x : Int64} (hd : decode cc pc = .ok (.lstore i, 2)) (hi : i + 1 < lv.length) (K : Y Γ Z k n Q G (pc + 2) (lst2 (.long x) lv i) st) : Y Γ Z k n Q G pc lv (.long x :: st) := fun H locs ls a b c => lv_lstore E.x E.c hd c.pr (by rw [← c.1]; exact hi) rfl (fun ls' h' => K H locs ls' a b (hasL.s2 c.1 (by rw [← c.1]; exact hi) h'))
theorem y_lstore_n (E : YE Γ Z own cc ret hh L mc ms nm) {i : Fin 4} {j : Nat} {x : Int64} (hd : decode cc pc = .ok (.lstore_n i, 1)) (hj : i.val = j) (hi : j + 1 < lv.length) (K : Y Γ Z k n Q G (pc + 1) (lst2 (.long x) lv j) st) : Y Γ Z k n Q G pc lv (.long x :: st) := fun H locs ls a b c => lv_lstore_n E.x E.c hd hj c.pr (by rw [← c.1]; exact hi) rfl (fun ls' h' => K H locs ls' a b (hasL.s2 c.1 (by rw [← c.1]; exact hi) h'))
theorem y_dstore (E : YE Γ Z own cc ret hh L mc ms nm) {i : Nat} {x : UInt64} (hd : decode cc pc = .ok (.dstore i, 2)) (hi : i + 1 < lv.length) (K : Y Γ Z k n Q G (pc + 2) (lst2 (.double x) lv i) st) : Y Γ Z k n Q G pc lv (.double x :: st) := fun H locs ls a b c => lv_dstore E.x E.c hd c.pr (by rw [← c.1]; exact hi) rfl (fun ls' h' => K H locs ls' a b (hasL.s2 c.1 (by rw [← c.1]; exact hi) h'))
theorem y_dstore_n (E : YE Γ Z own cc ret hh L mc ms nm) {i : Fin 4} {j : Nat} {x : UInt64} (hd : decode cc pc = .ok (.dstore_n i, 1)) (hj : i.val = j) (hi : j + 1 < lv.length) (K : Y Γ Z k n Q G (pc + 1) (lst2 (.double x) lv j) st) : Y Γ Z k n Q G pc lv (.double x :: st) := fun H locs ls a b c => lv_dstore_n E.x E.c hd hj c.pr (by rw [← c.1]; exact hi) rfl (fun ls' h' => K H locs ls' a b (hasL.s2 c.1 (by rw [← c.1]; exact hi) h'))
theorem y_iinc (E : YE Γ Z own cc ret hh L mc ms nm) {i : Nat} {v a : Int} (hd : decode cc pc = .ok (.iinc i v, 3)) (hx : lv[i]? = some (some (.int (iI a)))) (K : Y Γ Z k n Q G (pc + 3) (lst1 (.int (iI (a + v))) lv i) st) : Y Γ Z k n Q G pc lv st := fun H locs ls a1 b c => by
  have hm : (i, Value.int (iI a)) ∈ lvp lv := lvp_mem.mpr hx
  obtain ⟨j, hj⟩ := List.getElem?_of_mem hm
  have hlt : i < lv.length := (List.getElem?_eq_some_iff.mp hx).1
  exact lv_iinc (v := iI (a + v)) E.x E.c hd c.pr hj (by rw [← iI_add]; rfl) (by rw [← c.1]; exact hlt) rfl (fun ls' h' => K H locs ls' a1 b (hasL.s1 c.1 h'))
theorem y_iadd (E : YE Γ Z own cc ret hh L mc ms nm) {a b : Int} (hd : decode cc pc = .ok (.iadd, 1)) (K : Y Γ Z k n Q G (pc + 1) lv (.int (iI (a + b)) :: st)) : Y Γ Z k n Q G pc lv (.int (iI b) :: .int (iI a) :: st) := fun H locs ls h1 h2 h3 => lv_iadd E.x E.c hd (by rw [iI_add]; exact K H locs ls h1 h2 h3)
theorem y_isub (E : YE Γ Z own cc ret hh L mc ms nm) {a b : Int} (hd : decode cc pc = .ok (.isub, 1)) (K : Y Γ Z k n Q G (pc + 1) lv (.int (iI (a - b)) :: st)) : Y Γ Z k n Q G pc lv (.int (iI b) :: .int (iI a) :: st) := fun H locs ls h1 h2 h3 => lv_isub E.x E.c hd (by rw [iI_sub]; exact K H locs ls h1 h2 h3)
theorem y_imul (E : YE Γ Z own cc ret hh L mc ms nm) {a b : Int} (hd : decode cc pc = .ok (.imul, 1)) (K : Y Γ Z k n Q G (pc + 1) lv (.int (iI (a * b)) :: st)) : Y Γ Z k n Q G pc lv (.int (iI b) :: .int (iI a) :: st) := fun H locs ls h1 h2 h3 => lv_imul E.x E.c hd (by rw [iI_mul]; exact K H locs ls h1 h2 h3)
theorem y_ineg (E : YE Γ Z own cc ret hh L mc ms nm) {a : Int} (hd : decode cc pc = .ok (.ineg, 1)) (K : Y Γ Z k n Q G (pc + 1) lv (.int (iI (-a)) :: st)) : Y Γ Z k n Q G pc lv (.int (iI a) :: st) := fun H locs ls h1 h2 h3 => lv_ineg E.x E.c hd (by rw [iI_neg]; exact K H locs ls h1 h2 h3)
theorem y_idiv (E : YE Γ Z own cc ret hh L mc ms nm) {a b : Int} (hd : decode cc pc = .ok (.idiv, 1)) (ha : 0 ≤ a ∧ a ≤ 2147483647) (hb : 0 < b ∧ b ≤ 2147483647) (K : Y Γ Z k n Q G (pc + 1) lv (.int (iI (a / b)) :: st)) : Y Γ Z k n Q G pc lv (.int (iI b) :: .int (iI a) :: st) := fun H locs ls h1 h2 h3 => lv_idiv E.x E.c hd (by rw [iI_eq0 ⟨by omega, hb.2⟩]; omega) (by rw [iI_div ha.1 ha.2 hb.1 hb.2]; exact K H locs ls h1 h2 h3)
theorem y_irem (E : YE Γ Z own cc ret hh L mc ms nm) {a b : Int} (hd : decode cc pc = .ok (.irem, 1)) (ha : 0 ≤ a ∧ a ≤ 2147483647) (hb : 0 < b ∧ b ≤ 2147483647) (K : Y Γ Z k n Q G (pc + 1) lv (.int (iI (a % b)) :: st)) : Y Γ Z k n Q G pc lv (.int (iI b) :: .int (iI a) :: st) := fun H locs ls h1 h2 h3 => lv_irem E.x E.c hd (by rw [iI_eq0 ⟨by omega, hb.2⟩]; omega) (by rw [iI_rem ha.1 ha.2 hb.1 hb.2]; exact K H locs ls h1 h2 h3)
theorem y_iand (E : YE Γ Z own cc ret hh L mc ms nm) {x y v : Int32} (hd : decode cc pc = .ok (.iand, 1)) (hv : x &&& y = v) (K : Y Γ Z k n Q G (pc + 1) lv (.int v :: st)) : Y Γ Z k n Q G pc lv (.int y :: .int x :: st) := fun H locs ls h1 h2 h3 => lv_iand E.x E.c hd (by rw [hv]; exact K H locs ls h1 h2 h3)
theorem y_ior (E : YE Γ Z own cc ret hh L mc ms nm) {x y v : Int32} (hd : decode cc pc = .ok (.ior, 1)) (hv : x ||| y = v) (K : Y Γ Z k n Q G (pc + 1) lv (.int v :: st)) : Y Γ Z k n Q G pc lv (.int y :: .int x :: st) := fun H locs ls h1 h2 h3 => lv_ior E.x E.c hd (by rw [hv]; exact K H locs ls h1 h2 h3)
theorem y_ixor (E : YE Γ Z own cc ret hh L mc ms nm) {x y v : Int32} (hd : decode cc pc = .ok (.ixor, 1)) (hv : x ^^^ y = v) (K : Y Γ Z k n Q G (pc + 1) lv (.int v :: st)) : Y Γ Z k n Q G pc lv (.int y :: .int x :: st) := fun H locs ls h1 h2 h3 => lv_ixor E.x E.c hd (by rw [hv]; exact K H locs ls h1 h2 h3)
theorem y_ishl (E : YE Γ Z own cc ret hh L mc ms nm) {x y v : Int32} (hd : decode cc pc = .ok (.ishl, 1)) (hv : x <<< (y &&& 31) = v) (K : Y Γ Z k n Q G (pc + 1) lv (.int v :: st)) : Y Γ Z k n Q G pc lv (.int y :: .int x :: st) := fun H locs ls h1 h2 h3 => lv_ishl E.x E.c hd (by rw [hv]; exact K H locs ls h1 h2 h3)
theorem y_ishr (E : YE Γ Z own cc ret hh L mc ms nm) {x y v : Int32} (hd : decode cc pc = .ok (.ishr, 1)) (hv : x >>> (y &&& 31) = v) (K : Y Γ Z k n Q G (pc + 1) lv (.int v :: st)) : Y Γ Z k n Q G pc lv (.int y :: .int x :: st) := fun H locs ls h1 h2 h3 => lv_ishr E.x E.c hd (by rw [hv]; exact K H locs ls h1 h2 h3)
theorem y_iushr (E : YE Γ Z own cc ret hh L mc ms nm) {x y v : Int32} (hd : decode cc pc = .ok (.iushr, 1)) (hv : (x.toUInt32 >>> (y.toUInt32 &&& Int32.toUInt32 31)).toInt32 = v) (K : Y Γ Z k n Q G (pc + 1) lv (.int v :: st)) : Y Γ Z k n Q G pc lv (.int y :: .int x :: st) := fun H locs ls h1 h2 h3 => lv_iushr E.x E.c hd hv (K H locs ls h1 h2 h3)
theorem y_ladd (E : YE Γ Z own cc ret hh L mc ms nm) {x y v : Int64} (hd : decode cc pc = .ok (.ladd, 1)) (hv : x + y = v) (K : Y Γ Z k n Q G (pc + 1) lv (.long v :: st)) : Y Γ Z k n Q G pc lv (.long y :: .long x :: st) := fun H locs ls h1 h2 h3 => lv_ladd E.x E.c hd (by rw [hv]; exact K H locs ls h1 h2 h3)
theorem y_lsub (E : YE Γ Z own cc ret hh L mc ms nm) {x y v : Int64} (hd : decode cc pc = .ok (.lsub, 1)) (hv : x - y = v) (K : Y Γ Z k n Q G (pc + 1) lv (.long v :: st)) : Y Γ Z k n Q G pc lv (.long y :: .long x :: st) := fun H locs ls h1 h2 h3 => lv_lsub E.x E.c hd (by rw [hv]; exact K H locs ls h1 h2 h3)
theorem y_land (E : YE Γ Z own cc ret hh L mc ms nm) {x y v : Int64} (hd : decode cc pc = .ok (.land, 1)) (hv : x &&& y = v) (K : Y Γ Z k n Q G (pc + 1) lv (.long v :: st)) : Y Γ Z k n Q G pc lv (.long y :: .long x :: st) := fun H locs ls h1 h2 h3 => lv_land E.x E.c hd (by rw [hv]; exact K H locs ls h1 h2 h3)
theorem y_lor (E : YE Γ Z own cc ret hh L mc ms nm) {x y v : Int64} (hd : decode cc pc = .ok (.lor, 1)) (hv : x ||| y = v) (K : Y Γ Z k n Q G (pc + 1) lv (.long v :: st)) : Y Γ Z k n Q G pc lv (.long y :: .long x :: st) := fun H locs ls h1 h2 h3 => lv_lor E.x E.c hd (by rw [hv]; exact K H locs ls h1 h2 h3)
theorem y_lxor (E : YE Γ Z own cc ret hh L mc ms nm) {x y v : Int64} (hd : decode cc pc = .ok (.lxor, 1)) (hv : x ^^^ y = v) (K : Y Γ Z k n Q G (pc + 1) lv (.long v :: st)) : Y Γ Z k n Q G pc lv (.long y :: .long x :: st) := fun H locs ls h1 h2 h3 => lv_lxor E.x E.c hd (by rw [hv]; exact K H locs ls h1 h2 h3)
theorem y_lshl (E : YE Γ Z own cc ret hh L mc ms nm) {x v : Int64} {y : Int32} (hd : decode cc pc = .ok (.lshl, 1)) (hv : x <<< (y.toInt64 &&& 63) = v) (K : Y Γ Z k n Q G (pc + 1) lv (.long v :: st)) : Y Γ Z k n Q G pc lv (.int y :: .long x :: st) := fun H locs ls h1 h2 h3 => lv_lshl E.x E.c hd hv (K H locs ls h1 h2 h3)
theorem y_lushr (E : YE Γ Z own cc ret hh L mc ms nm) {x v : Int64} {y : Int32} (hd : decode cc pc = .ok (.lushr, 1)) (hv : (x.toUInt64 >>> (y.toInt64.toUInt64 &&& Int64.toUInt64 63)).toInt64 = v) (K : Y Γ Z k n Q G (pc + 1) lv (.long v :: st)) : Y Γ Z k n Q G pc lv (.int y :: .long x :: st) := fun H locs ls h1 h2 h3 => lv_lushr E.x E.c hd hv (K H locs ls h1 h2 h3)
theorem y_i2l (E : YE Γ Z own cc ret hh L mc ms nm) {x : Int32} {v : Int64} (hd : decode cc pc = .ok (.i2l, 1)) (hv : x.toInt64 = v) (K : Y Γ Z k n Q G (pc + 1) lv (.long v :: st)) : Y Γ Z k n Q G pc lv (.int x :: st) := fun H locs ls h1 h2 h3 => lv_i2l E.x E.c hd hv (K H locs ls h1 h2 h3)
theorem y_l2i (E : YE Γ Z own cc ret hh L mc ms nm) {x : Int64} {v : Int32} (hd : decode cc pc = .ok (.l2i, 1)) (hv : x.toInt32 = v) (K : Y Γ Z k n Q G (pc + 1) lv (.int v :: st)) : Y Γ Z k n Q G pc lv (.long x :: st) := fun H locs ls h1 h2 h3 => lv_l2i E.x E.c hd hv (K H locs ls h1 h2 h3)
theorem y_i2c (E : YE Γ Z own cc ret hh L mc ms nm) {x v : Int32} (hd : decode cc pc = .ok (.i2c, 1)) (hv : (x.toUInt32 % 65536).toInt32 = v) (K : Y Γ Z k n Q G (pc + 1) lv (.int v :: st)) : Y Γ Z k n Q G pc lv (.int x :: st) := fun H locs ls h1 h2 h3 => lv_i2c E.x E.c hd hv (K H locs ls h1 h2 h3)
theorem y_i2b (E : YE Γ Z own cc ret hh L mc ms nm) {x v : Int32} (hd : decode cc pc = .ok (.i2b, 1)) (hv : x.toInt8.toInt32 = v) (K : Y Γ Z k n Q G (pc + 1) lv (.int v :: st)) : Y Γ Z k n Q G pc lv (.int x :: st) := fun H locs ls h1 h2 h3 => lv_i2b E.x E.c hd hv (K H locs ls h1 h2 h3)
theorem y_i2d (E : YE Γ Z own cc ret hh L mc ms nm) {x : Int32} (hd : decode cc pc = .ok (.i2d, 1)) (K : Y Γ Z k n Q G (pc + 1) lv (.double (FP.i2d x) :: st)) : Y Γ Z k n Q G pc lv (.int x :: st) := fun H locs ls h1 h2 h3 => lv_i2d E.x E.c hd (K H locs ls h1 h2 h3)
theorem y_i2f (E : YE Γ Z own cc ret hh L mc ms nm) {x : Int32} (hd : decode cc pc = .ok (.i2f, 1)) (K : Y Γ Z k n Q G (pc + 1) lv (.float (FP.i2f x) :: st)) : Y Γ Z k n Q G pc lv (.int x :: st) := fun H locs ls h1 h2 h3 => lv_i2f E.x E.c hd (K H locs ls h1 h2 h3)
theorem y_f2d (E : YE Γ Z own cc ret hh L mc ms nm) {x : UInt32} (hd : decode cc pc = .ok (.f2d, 1)) (hne : vf_n64 (FP.f2d x)) (K : Y Γ Z k n Q G (pc + 1) lv (.double (FP.f2d x) :: st)) : Y Γ Z k n Q G pc lv (.float x :: st) := fun H locs ls h1 h2 h3 => lv_f2d E.x E.c hd hne (K H locs ls h1 h2 h3)
theorem y_ddiv (E : YE Γ Z own cc ret hh L mc ms nm) {x y : UInt64} (hd : decode cc pc = .ok (.ddiv, 1)) (hne : vf_n64 (FP.ddiv x y)) (K : Y Γ Z k n Q G (pc + 1) lv (.double (FP.ddiv x y) :: st)) : Y Γ Z k n Q G pc lv (.double y :: .double x :: st) := fun H locs ls h1 h2 h3 => lv_ddiv E.x E.c hd hne (K H locs ls h1 h2 h3)
theorem y_fdiv (E : YE Γ Z own cc ret hh L mc ms nm) {x y : UInt32} (hd : decode cc pc = .ok (.fdiv, 1)) (hne : vf_n32 (FP.fdiv x y)) (K : Y Γ Z k n Q G (pc + 1) lv (.float (FP.fdiv x y) :: st)) : Y Γ Z k n Q G pc lv (.float y :: .float x :: st) := fun H locs ls h1 h2 h3 => lv_fdiv E.x E.c hd hne (K H locs ls h1 h2 h3)
theorem y_lcmp (E : YE Γ Z own cc ret hh L mc ms nm) {x y : Int64} (hd : decode cc pc = .ok (.lcmp, 1)) (K : Y Γ Z k n Q G (pc + 1) lv (.int (lg_cmp x y) :: st)) : Y Γ Z k n Q G pc lv (.long y :: .long x :: st) := fun H locs ls h1 h2 h3 => W.lcmp E.x E.c hd (K H locs ls h1 h2 h3)
theorem y_dup (E : YE Γ Z own cc ret hh L mc ms nm) {v : Value} (hd : decode cc pc = .ok (.dup, 1)) (hc : v.category = 1) (K : Y Γ Z k n Q G (pc + 1) lv (v :: v :: st)) : Y Γ Z k n Q G pc lv (v :: st) := fun H locs ls h1 h2 h3 => lv_dup E.x E.c hd hc (K H locs ls h1 h2 h3)
theorem y_pop (E : YE Γ Z own cc ret hh L mc ms nm) {v : Value} (hd : decode cc pc = .ok (.pop, 1)) (hc : v.category = 1) (K : Y Γ Z k n Q G (pc + 1) lv st) : Y Γ Z k n Q G pc lv (v :: st) := fun H locs ls h1 h2 h3 => lv_pop E.x E.c hd hc (K H locs ls h1 h2 h3)
theorem y_dup_x1 (E : YE Γ Z own cc ret hh L mc ms nm) {v w : Value} (hd : decode cc pc = .ok (.dup_x1, 1)) (hc : v.category = 1) (hw : w.category = 1) (K : Y Γ Z k n Q G (pc + 1) lv (v :: w :: v :: st)) : Y Γ Z k n Q G pc lv (v :: w :: st) := fun H locs ls h1 h2 h3 => lv_dup_x1 E.x E.c hd hc hw (K H locs ls h1 h2 h3)
theorem y_dup2 (E : YE Γ Z own cc ret hh L mc ms nm) {v w : Value} (hd : decode cc pc = .ok (.dup2, 1)) (hc : v.category = 1) (hw : w.category = 1) (K : Y Γ Z k n Q G (pc + 1) lv (v :: w :: v :: w :: st)) : Y Γ Z k n Q G pc lv (v :: w :: st) := fun H locs ls h1 h2 h3 => lv_dup2_11 E.x E.c hd hc hw (K H locs ls h1 h2 h3)
theorem y_goto (E : YE Γ Z own cc ret hh L mc ms nm) {off : Int} {tgt : Nat} (hd : decode cc pc = .ok (.goto off, 3)) (ht : (pc : Int) + off = (tgt : Int)) (K : Y Γ Z k n Q G tgt lv st) : Y Γ Z k n Q G pc lv st := fun H locs ls h1 h2 h3 => lv_goto E.x E.c hd ht (K H locs ls h1 h2 h3)
theorem y_icmp_eq (E : YE Γ Z own cc ret hh L mc ms nm) {off : Int} {tgt : Nat} {a b : Int} (hd : decode cc pc = .ok (.if_icmp .eq off, 3)) (ht : (pc : Int) + off = (tgt : Int)) (ha : inR a) (hb : inR b) (KT : a = b → Y Γ Z k n Q G tgt lv st) (KF : a ≠ b → Y Γ Z k n Q G (pc + 3) lv st) : Y Γ Z k n Q G pc lv (.int (iI b) :: .int (iI a) :: st) := fun H locs ls h1 h2 h3 => lv_icmp_eq E.x E.c hd ht (fun q => KT ((iI_inj ha hb).mp q) H locs ls h1 h2 h3) (fun q => KF (fun z => q ((iI_inj ha hb).mpr z)) H locs ls h1 h2 h3)
theorem y_if_eq (E : YE Γ Z own cc ret hh L mc ms nm) {off : Int} {tgt : Nat} {a : Int} (hd : decode cc pc = .ok (.ifCond .eq off, 3)) (ht : (pc : Int) + off = (tgt : Int)) (ha : inR a) (KT : a = 0 → Y Γ Z k n Q G tgt lv st) (KF : a ≠ 0 → Y Γ Z k n Q G (pc + 3) lv st) : Y Γ Z k n Q G pc lv (.int (iI a) :: st) := fun H locs ls h1 h2 h3 => lv_if_eq E.x E.c hd ht (fun q => KT (by rw [← iI_0] at q; exact (iI_inj ha (by decide : inR 0)).mp q) H locs ls h1 h2 h3) (fun q => KF (by rw [← iI_0] at q; exact fun z => q ((iI_inj ha (by decide : inR 0)).mpr z)) H locs ls h1 h2 h3)
theorem y_icmp_ne (E : YE Γ Z own cc ret hh L mc ms nm) {off : Int} {tgt : Nat} {a b : Int} (hd : decode cc pc = .ok (.if_icmp .ne off, 3)) (ht : (pc : Int) + off = (tgt : Int)) (ha : inR a) (hb : inR b) (KT : a ≠ b → Y Γ Z k n Q G tgt lv st) (KF : a = b → Y Γ Z k n Q G (pc + 3) lv st) : Y Γ Z k n Q G pc lv (.int (iI b) :: .int (iI a) :: st) := fun H locs ls h1 h2 h3 => lv_icmp_ne E.x E.c hd ht (fun q => KT (fun z => q ((iI_inj ha hb).mpr z)) H locs ls h1 h2 h3) (fun q => KF ((iI_inj ha hb).mp q) H locs ls h1 h2 h3)
theorem y_if_ne (E : YE Γ Z own cc ret hh L mc ms nm) {off : Int} {tgt : Nat} {a : Int} (hd : decode cc pc = .ok (.ifCond .ne off, 3)) (ht : (pc : Int) + off = (tgt : Int)) (ha : inR a) (KT : a ≠ 0 → Y Γ Z k n Q G tgt lv st) (KF : a = 0 → Y Γ Z k n Q G (pc + 3) lv st) : Y Γ Z k n Q G pc lv (.int (iI a) :: st) := fun H locs ls h1 h2 h3 => lv_if_ne E.x E.c hd ht (fun q => KT (by rw [← iI_0] at q; exact fun z => q ((iI_inj ha (by decide : inR 0)).mpr z)) H locs ls h1 h2 h3) (fun q => KF (by rw [← iI_0] at q; exact (iI_inj ha (by decide : inR 0)).mp q) H locs ls h1 h2 h3)
theorem y_icmp_lt (E : YE Γ Z own cc ret hh L mc ms nm) {off : Int} {tgt : Nat} {a b : Int} (hd : decode cc pc = .ok (.if_icmp .lt off, 3)) (ht : (pc : Int) + off = (tgt : Int)) (ha : inR a) (hb : inR b) (KT : a < b → Y Γ Z k n Q G tgt lv st) (KF : b ≤ a → Y Γ Z k n Q G (pc + 3) lv st) : Y Γ Z k n Q G pc lv (.int (iI b) :: .int (iI a) :: st) := fun H locs ls h1 h2 h3 => lv_icmp_lt E.x E.c hd ht (fun q => KT ((iI_lt ha hb).mp q) H locs ls h1 h2 h3) (fun q => KF (Int.not_lt.mp (fun z => q ((iI_lt ha hb).mpr z))) H locs ls h1 h2 h3)
theorem y_if_lt (E : YE Γ Z own cc ret hh L mc ms nm) {off : Int} {tgt : Nat} {a : Int} (hd : decode cc pc = .ok (.ifCond .lt off, 3)) (ht : (pc : Int) + off = (tgt : Int)) (ha : inR a) (KT : a < 0 → Y Γ Z k n Q G tgt lv st) (KF : 0 ≤ a → Y Γ Z k n Q G (pc + 3) lv st) : Y Γ Z k n Q G pc lv (.int (iI a) :: st) := fun H locs ls h1 h2 h3 => lv_if_lt E.x E.c hd ht (fun q => KT (by rw [← iI_0] at q; exact (iI_lt ha (by decide : inR 0)).mp q) H locs ls h1 h2 h3) (fun q => KF (by rw [← iI_0] at q; exact Int.not_lt.mp (fun z => q ((iI_lt ha (by decide : inR 0)).mpr z))) H locs ls h1 h2 h3)
theorem y_icmp_ge (E : YE Γ Z own cc ret hh L mc ms nm) {off : Int} {tgt : Nat} {a b : Int} (hd : decode cc pc = .ok (.if_icmp .ge off, 3)) (ht : (pc : Int) + off = (tgt : Int)) (ha : inR a) (hb : inR b) (KT : b ≤ a → Y Γ Z k n Q G tgt lv st) (KF : a < b → Y Γ Z k n Q G (pc + 3) lv st) : Y Γ Z k n Q G pc lv (.int (iI b) :: .int (iI a) :: st) := fun H locs ls h1 h2 h3 => lv_icmp_ge E.x E.c hd ht (fun q => KT ((iI_le hb ha).mp q) H locs ls h1 h2 h3) (fun q => KF (Int.not_le.mp (fun z => q ((iI_le hb ha).mpr z))) H locs ls h1 h2 h3)
theorem y_if_ge (E : YE Γ Z own cc ret hh L mc ms nm) {off : Int} {tgt : Nat} {a : Int} (hd : decode cc pc = .ok (.ifCond .ge off, 3)) (ht : (pc : Int) + off = (tgt : Int)) (ha : inR a) (KT : 0 ≤ a → Y Γ Z k n Q G tgt lv st) (KF : a < 0 → Y Γ Z k n Q G (pc + 3) lv st) : Y Γ Z k n Q G pc lv (.int (iI a) :: st) := fun H locs ls h1 h2 h3 => lv_if_ge E.x E.c hd ht (fun q => KT (by rw [← iI_0] at q; exact (iI_le (by decide : inR 0) ha).mp q) H locs ls h1 h2 h3) (fun q => KF (by rw [← iI_0] at q; exact Int.not_le.mp (fun z => q ((iI_le (by decide : inR 0) ha).mpr z))) H locs ls h1 h2 h3)
theorem y_icmp_gt (E : YE Γ Z own cc ret hh L mc ms nm) {off : Int} {tgt : Nat} {a b : Int} (hd : decode cc pc = .ok (.if_icmp .gt off, 3)) (ht : (pc : Int) + off = (tgt : Int)) (ha : inR a) (hb : inR b) (KT : b < a → Y Γ Z k n Q G tgt lv st) (KF : a ≤ b → Y Γ Z k n Q G (pc + 3) lv st) : Y Γ Z k n Q G pc lv (.int (iI b) :: .int (iI a) :: st) := fun H locs ls h1 h2 h3 => lv_icmp_gt E.x E.c hd ht (fun q => KT ((iI_lt hb ha).mp q) H locs ls h1 h2 h3) (fun q => KF (Int.not_lt.mp (fun z => q ((iI_lt hb ha).mpr z))) H locs ls h1 h2 h3)
theorem y_if_gt (E : YE Γ Z own cc ret hh L mc ms nm) {off : Int} {tgt : Nat} {a : Int} (hd : decode cc pc = .ok (.ifCond .gt off, 3)) (ht : (pc : Int) + off = (tgt : Int)) (ha : inR a) (KT : 0 < a → Y Γ Z k n Q G tgt lv st) (KF : a ≤ 0 → Y Γ Z k n Q G (pc + 3) lv st) : Y Γ Z k n Q G pc lv (.int (iI a) :: st) := fun H locs ls h1 h2 h3 => lv_if_gt E.x E.c hd ht (fun q => KT (by rw [← iI_0] at q; exact (iI_lt (by decide : inR 0) ha).mp q) H locs ls h1 h2 h3) (fun q => KF (by rw [← iI_0] at q; exact Int.not_lt.mp (fun z => q ((iI_lt (by decide : inR 0) ha).mpr z))) H locs ls h1 h2 h3)
theorem y_icmp_le (E : YE Γ Z own cc ret hh L mc ms nm) {off : Int} {tgt : Nat} {a b : Int} (hd : decode cc pc = .ok (.if_icmp .le off, 3)) (ht : (pc : Int) + off = (tgt : Int)) (ha : inR a) (hb : inR b) (KT : a ≤ b → Y Γ Z k n Q G tgt lv st) (KF : b < a → Y Γ Z k n Q G (pc + 3) lv st) : Y Γ Z k n Q G pc lv (.int (iI b) :: .int (iI a) :: st) := fun H locs ls h1 h2 h3 => lv_icmp_le E.x E.c hd ht (fun q => KT ((iI_le ha hb).mp q) H locs ls h1 h2 h3) (fun q => KF (Int.not_le.mp (fun z => q ((iI_le ha hb).mpr z))) H locs ls h1 h2 h3)
theorem y_if_le (E : YE Γ Z own cc ret hh L mc ms nm) {off : Int} {tgt : Nat} {a : Int} (hd : decode cc pc = .ok (.ifCond .le off, 3)) (ht : (pc : Int) + off = (tgt : Int)) (ha : inR a) (KT : a ≤ 0 → Y Γ Z k n Q G tgt lv st) (KF : 0 < a → Y Γ Z k n Q G (pc + 3) lv st) : Y Γ Z k n Q G pc lv (.int (iI a) :: st) := fun H locs ls h1 h2 h3 => lv_if_le E.x E.c hd ht (fun q => KT (by rw [← iI_0] at q; exact (iI_le ha (by decide : inR 0)).mp q) H locs ls h1 h2 h3) (fun q => KF (by rw [← iI_0] at q; exact Int.not_le.mp (fun z => q ((iI_le ha (by decide : inR 0)).mpr z))) H locs ls h1 h2 h3)
theorem y_ifb_eq (E : YE Γ Z own cc ret hh L mc ms nm) {off : Int} {tgt : Nat} {b : Bool} (hd : decode cc pc = .ok (.ifCond .eq off, 3)) (ht : (pc : Int) + off = (tgt : Int)) (KT : b = false → Y Γ Z k n Q G tgt lv st) (KF : b = true → Y Γ Z k n Q G (pc + 3) lv st) : Y Γ Z k n Q G pc lv (.int (iI (b2i b)) :: st) := y_if_eq E hd ht (b2i_in b) (fun q => KT (by cases b <;> simp_all [b2i])) (fun q => KF (by cases b <;> simp_all [b2i]))
theorem y_ifb_ne (E : YE Γ Z own cc ret hh L mc ms nm) {off : Int} {tgt : Nat} {b : Bool} (hd : decode cc pc = .ok (.ifCond .ne off, 3)) (ht : (pc : Int) + off = (tgt : Int)) (KT : b = true → Y Γ Z k n Q G tgt lv st) (KF : b = false → Y Γ Z k n Q G (pc + 3) lv st) : Y Γ Z k n Q G pc lv (.int (iI (b2i b)) :: st) := y_if_ne E hd ht (b2i_in b) (fun q => KT (by cases b <;> simp_all [b2i])) (fun q => KF (by cases b <;> simp_all [b2i]))
theorem y_ifnull (E : YE Γ Z own cc ret hh L mc ms nm) {off : Int} {tgt : Nat} {r : Option Nat} (hd : decode cc pc = .ok (.ifnull off, 3)) (ht : (pc : Int) + off = (tgt : Int)) (KT : r = none → Y Γ Z k n Q G tgt lv st) (KF : ∀ a, r = some a → Y Γ Z k n Q G (pc + 3) lv st) : Y Γ Z k n Q G pc lv (va_rf r :: st) := fun H locs ls h1 h2 h3 => by
  cases r with
  | none => exact lv_ifnullN E.x E.c hd ht (KT rfl H locs ls h1 h2 h3)
  | some x => exact lv_ifnull E.x E.c hd (KF x rfl H locs ls h1 h2 h3)
theorem y_ifnonnull (E : YE Γ Z own cc ret hh L mc ms nm) {off : Int} {tgt : Nat} {r : Option Nat} (hd : decode cc pc = .ok (.ifnonnull off, 3)) (ht : (pc : Int) + off = (tgt : Int)) (KT : ∀ a, r = some a → Y Γ Z k n Q G tgt lv st) (KF : r = none → Y Γ Z k n Q G (pc + 3) lv st) : Y Γ Z k n Q G pc lv (va_rf r :: st) := fun H locs ls h1 h2 h3 => by
  cases r with
  | none => exact lv_ifnonnullN E.x E.c hd (KF rfl H locs ls h1 h2 h3)
  | some x => exact lv_ifnonnull E.x E.c hd ht (KT x rfl H locs ls h1 h2 h3)
theorem y_ifnull_r (E : YE Γ Z own cc ret hh L mc ms nm) {off : Int} {r : Nat} (hd : decode cc pc = .ok (.ifnull off, 3)) (K : Y Γ Z k n Q G (pc + 3) lv st) : Y Γ Z k n Q G pc lv (.ref r :: st) := fun H locs ls h1 h2 h3 => lv_ifnull E.x E.c hd (K H locs ls h1 h2 h3)
theorem y_ifnonnull_r (E : YE Γ Z own cc ret hh L mc ms nm) {off : Int} {tgt r : Nat} (hd : decode cc pc = .ok (.ifnonnull off, 3)) (ht : (pc : Int) + off = (tgt : Int)) (K : Y Γ Z k n Q G tgt lv st) : Y Γ Z k n Q G pc lv (.ref r :: st) := fun H locs ls h1 h2 h3 => lv_ifnonnull E.x E.c hd ht (K H locs ls h1 h2 h3)
theorem y_ifnull_n (E : YE Γ Z own cc ret hh L mc ms nm) {off : Int} {tgt : Nat} (hd : decode cc pc = .ok (.ifnull off, 3)) (ht : (pc : Int) + off = (tgt : Int)) (K : Y Γ Z k n Q G tgt lv st) : Y Γ Z k n Q G pc lv (.null :: st) := fun H locs ls h1 h2 h3 => lv_ifnullN E.x E.c hd ht (K H locs ls h1 h2 h3)
theorem y_ifnonnull_n (E : YE Γ Z own cc ret hh L mc ms nm) {off : Int} (hd : decode cc pc = .ok (.ifnonnull off, 3)) (K : Y Γ Z k n Q G (pc + 3) lv st) : Y Γ Z k n Q G pc lv (.null :: st) := fun H locs ls h1 h2 h3 => lv_ifnonnullN E.x E.c hd (K H locs ls h1 h2 h3)
theorem y_acmp_eq (E : YE Γ Z own cc ret hh L mc ms nm) {off : Int} {tgt : Nat} {x y : Option Nat} (hd : decode cc pc = .ok (.if_acmp .eq off, 3)) (ht : (pc : Int) + off = (tgt : Int)) (KT : x = y → Y Γ Z k n Q G tgt lv st) (KF : x ≠ y → Y Γ Z k n Q G (pc + 3) lv st) : Y Γ Z k n Q G pc lv (va_rf y :: va_rf x :: st) := fun H locs ls h1 h2 h3 => lv_acmp_eq E.x E.c hd ht (fun q => KT q H locs ls h1 h2 h3) (fun q => KF q H locs ls h1 h2 h3)
theorem y_acmp_ne (E : YE Γ Z own cc ret hh L mc ms nm) {off : Int} {tgt : Nat} {x y : Option Nat} (hd : decode cc pc = .ok (.if_acmp .ne off, 3)) (ht : (pc : Int) + off = (tgt : Int)) (KT : x ≠ y → Y Γ Z k n Q G tgt lv st) (KF : x = y → Y Γ Z k n Q G (pc + 3) lv st) : Y Γ Z k n Q G pc lv (va_rf y :: va_rf x :: st) := fun H locs ls h1 h2 h3 => lv_acmp_ne E.x E.c hd ht (fun q => KT q H locs ls h1 h2 h3) (fun q => KF q H locs ls h1 h2 h3)
end YRows
end YB
