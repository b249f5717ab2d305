/-! ===== rows of the heap ===== -/
section YB2
section YRows2
variable {Γ : yG} {Z : yZ} {own : String} {cc : ByteArray} {ret : Option FieldType} {hh : List (Nat × Nat × Nat × Nat)} {L mc ms : Nat} {nm : String} {k n : Nat} {Q : State → Prop} {G : yH} {pc : Nat} {lv : List (Option Value)} {st : List Value}
/-- a field's entry of a class's constant pool, resolved: field f of class number ci -/
def FL (own : String) (index ci f : Nat) : Prop := ∃ C T N ref, gCl[ci]? = some (C, T, N) ∧ f < N ∧ (∀ w ∈ u_ws C T N, w ∈ lw_all) ∧ Cond.fieldLink own index ref (T f).2.1 (T f).2.2.1 ∈ lw_all ∧ ((T f).1 = ref ∨ Cond.sameField ref (T f).1 (T f).2.1 (T f).2.2.1 ∈ lw_all)
def FLN (own : String) (index ci f : Nat) : Prop := ∃ C T N ref host, gCl[ci]? = some (C, T, N) ∧ f < N ∧ (∀ w ∈ u_ws C T N, w ∈ lw_all) ∧ Cond.fieldLinkNest own index ref (T f).2.1 (T f).2.2.1 host ∈ lw_tbl ∧ ((T f).1 = ref ∨ Cond.sameField ref (T f).1 (T f).2.1 (T f).2.2.1 ∈ lw_all)
/-- what writing asks of the class -/
def FW (ci f : Nat) (ty : FieldType) (fin : Bool) : Prop := ∃ C T N, gCl[ci]? = some (C, T, N) ∧ (∃ ty0 : Nat → FieldType, ∀ k, k < N → parseFieldDescriptor (T k).2.2.1 = some (ty0 k)) ∧ (∀ a, a < N → ∀ b, b < N → a ≠ b → (T a).2.1 ≠ (T b).2.1) ∧ (T f).2.2.2 = fin ∧ parseFieldDescriptor (T f).2.2.1 = some ty
theorem fl_same {args : Array Value} {s : State} {T : u_T} {f : Nat} {ref : String} (hw : ∀ w ∈ lw_all, w.before args s = true) (h : (T f).1 = ref ∨ Cond.sameField ref (T f).1 (T f).2.1 (T f).2.2.1 ∈ lw_all) : ∀ x, s.fieldFound? (T f).1 (T f).2.1 (T f).2.2.1 = some x → s.fieldFound? ref (T f).2.1 (T f).2.2.1 = some x := by
  rcases h with h | h
  · subst h
    exact fun x hx => hx
  · exact fun x hx => u_same (hw _ h) x hx
theorem va_P_1 {D : va_G} {cl : List vw_C} {q : Nat × va_E} {H : Heap} (h : va_at D cl q H) : va_P D cl [q] H := by
  intro k x hx
  match k, hx with
  | 0, hx => cases hx; exact h
  | k + 1, hx => simp at hx
theorem y_get (E : YE Γ Z own cc ret hh L mc ms nm) {index ci f a : Nat} {fs : List Value} {v : Value} {t : yT} (hd : decode cc pc = .ok (.getfield index, 3)) (hF : FL own index ci f) (hG : G a = some (t, .inr (ci, fs))) (hv : fs[f]? = some v) (K : Y Γ Z k n Q G (pc + 3) lv (v :: st)) : Y Γ Z k n Q G pc lv (.ref a :: st) := by
  obtain ⟨C, T, N, ref, hc, hf, hin, hl, hs⟩ := hF
  exact fun H locs ls a1 b c => va_get E.x E.c E.w hin E.o E.K (va_P_1 (a1.2.2 a _ hG).2) 0 rfl hc f hf (E.w _ hl) (fl_same E.w hs) hv hd (K H locs ls a1 b c)
theorem y_getN (E : YE Γ Z own cc ret hh L mc ms nm) {index ci f a : Nat} {fs : List Value} {v : Value} {t : yT} (hd : decode cc pc = .ok (.getfield index, 3)) (hF : FLN own index ci f) (hG : G a = some (t, .inr (ci, fs))) (hv : fs[f]? = some v) (K : Y Γ Z k n Q G (pc + 3) lv (v :: st)) : Y Γ Z k n Q G pc lv (.ref a :: st) := by
  obtain ⟨C, T, N, ref, host, hc, hf, hin, hl, hs⟩ := hF
  exact fun H locs ls a1 b c => va_getN E.x E.c E.w hin E.o E.K (va_P_1 (a1.2.2 a _ hG).2) 0 rfl hc f hf (va_Nw.use rfl (E.kk.2.2.1 _ hl rfl)) (fl_same E.w hs) hv hd (K H locs ls a1 b c)
theorem y_put (E : YE Γ Z own cc ret hh L mc ms nm) {index ci f a : Nat} {fs : List Value} {v : Value} {t : Nat × Nat} {ty : FieldType} (hd : decode cc pc = .ok (.putfield index, 3)) (hF : FL own index ci f) (hW : FW ci f ty false) (hn : narrow ty v = v) (hfit : fits ty v = true) (hG : G a = some (some t, .inr (ci, fs))) (hl : f < fs.length) (K : Y Γ Z k n Q (gset G a (some t, .inr (ci, fs.set f v))) (pc + 3) lv st) : Y Γ Z k n Q G pc lv (v :: .ref a :: st) := by
  obtain ⟨C, T, N, ref, hc, hf, hin, hlk, hs⟩ := hF
  obtain ⟨C', T', N', hc', ⟨ty0, hty⟩, hnm, hfin, hpd⟩ := hW
  cases Option.some.inj (hc.symm.trans hc')
  intro H locs ls a1 b c
  have hap := va_apart (own := own) E.w hin ty0 hty hnm E.K hc
  obtain ⟨hN, r, h1, cell, q1, q2, q3, q4⟩ := a1.2.2 a _ hG
  have hr : r = (C, T, N) := Option.some.inj (h1.symm.trans hc)
  subst hr
  obtain ⟨hS, hfc, kC, hkC, hkind⟩ := E.K.1 ci _ hc
  obtain ⟨cf, kf, fi, fd, hi, hsl⟩ := hS f hf
  have hlay := E.w _ (hin _ (u_in_lay hf))
  unfold u_lay at hlay
  rw [if_neg (by rw [hfin]; decide)] at hlay
  have hst := (u_facts hfc hkC (u_lays E.w hin hf) hi).1
  have h6 := u_store hfc hkC hkind hlay hi hpd hn hfit
  refine W.putK E.x E.c (f := fd) ⟨E.o, E.w _ hlk, ⟨_, _, _, fl_same E.w hs _ hi⟩, hst⟩ (by rw [q2]; exact h6) q1 q3 (by rw [hsl]; exact k2_hasslot (q4 f hf)) rfl rfl hd fun H' e1 e2 e3 => ?_
  rw [hsl] at e1 ⊢
  exact K H' _ ls (gR_put a1 hG (by simp) e2 e3 ⟨_, hc, t_OB.to (V := updV (vp_V fs) f v) ⟨_, e1, q2, q3, t_set q4 hap hf v⟩ (fun j _ => vp_updV_set hl v j)⟩) (b.put e2 e3 (hN (by simp))) c
theorem y_putN (E : YE Γ Z own cc ret hh L mc ms nm) {index ci f a : Nat} {fs : List Value} {v : Value} {t : Nat × Nat} {ty : FieldType} (hd : decode cc pc = .ok (.putfield index, 3)) (hF : FLN own index ci f) (hW : FW ci f ty false) (hn : narrow ty v = v) (hfit : fits ty v = true) (hG : G a = some (some t, .inr (ci, fs))) (hl : f < fs.length) (K : Y Γ Z k n Q (gset G a (some t, .inr (ci, fs.set f v))) (pc + 3) lv st) : Y Γ Z k n Q G pc lv (v :: .ref a :: st) := by
  obtain ⟨C, T, N, ref, host, hc, hf, hin, hlk, hs⟩ := hF
  obtain ⟨C', T', N', hc', ⟨ty0, hty⟩, hnm, hfin, hpd⟩ := hW
  cases Option.some.inj (hc.symm.trans hc')
  intro H locs ls a1 b c
  have hap := va_apart (own := own) E.w hin ty0 hty hnm E.K hc
  obtain ⟨hN, r, h1, cell, q1, q2, q3, q4⟩ := a1.2.2 a _ hG
  have hr : r = (C, T, N) := Option.some.inj (h1.symm.trans hc)
  subst hr
  obtain ⟨hS, hfc, kC, hkC, hkind⟩ := E.K.1 ci _ hc
  obtain ⟨cf, kf, fi, fd, hi, hsl⟩ := hS f hf
  have hlay := E.w _ (hin _ (u_in_lay hf))
  unfold u_lay at hlay
  rw [if_neg (by rw [hfin]; decide)] at hlay
  have hst := (u_facts hfc hkC (u_lays E.w hin hf) hi).1
  have h6 := u_store hfc hkC hkind hlay hi hpd hn hfit
  refine va_WputK E.x E.c (f := fd) E.o (va_Nw.use rfl (E.kk.2.2.1 _ hlk rfl)) (fl_same E.w hs _ hi) hst (by rw [q2]; exact h6) q1 q3 (by rw [hsl]; exact k2_hasslot (q4 f hf)) rfl rfl hd fun H' e1 e2 e3 => ?_
  rw [hsl] at e1 ⊢
  exact K H' _ ls (gR_put a1 hG (by simp) e2 e3 ⟨_, hc, t_OB.to (V := updV (vp_V fs) f v) ⟨_, e1, q2, q3, t_set q4 hap hf v⟩ (fun j _ => vp_updV_set hl v j)⟩) (b.put e2 e3 (hN (by simp))) c
/-- a final field, in the constructor of its class -/
theorem y_putF (E : YE Γ Z own cc ret hh L mc ms "<init>") {index ci f a : Nat} {fs : List Value} {v : Value} {t : Nat × Nat} {ty : FieldType} (hd : decode cc pc = .ok (.putfield index, 3)) (hF : FL own index ci f) (hW : FW ci f ty true) (hdecl : ∀ q, gCl[ci]? = some q → (q.2.1 f).1 = own) (hn : narrow ty v = v) (hfit : fits ty v = true) (hG : G a = some (some t, .inr (ci, fs))) (hl : f < fs.length) (K : Y Γ Z k n Q (gset G a (some t, .inr (ci, fs.set f v))) (pc + 3) lv st) : Y Γ Z k n Q G pc lv (v :: .ref a :: st) := by
  obtain ⟨C, T, N, ref, hc, hf, hin, hlk, hs⟩ := hF
  obtain ⟨C', T', N', hc', ⟨ty0, hty⟩, hnm, hfin, hpd⟩ := hW
  cases Option.some.inj (hc.symm.trans hc')
  intro H locs ls a1 b c
  have hap := va_apart (own := own) E.w hin ty0 hty hnm E.K hc
  obtain ⟨hN, r, h1, cell, q1, q2, q3, q4⟩ := a1.2.2 a _ hG
  have hr : r = (C, T, N) := Option.some.inj (h1.symm.trans hc)
  subst hr
  obtain ⟨hS, hfc, kC, hkC, hkind⟩ := E.K.1 ci _ hc
  obtain ⟨cf, kf, fi, fd, hi, hsl⟩ := hS f hf
  have hlay := E.w _ (hin _ (u_in_lay hf))
  unfold u_lay at hlay
  rw [if_pos hfin] at hlay
  have hst := (u_facts hfc hkC (u_lays E.w hin hf) hi).1
  have hcf : (zm Z).cls = cf := by
    obtain ⟨_, _, c', _, _, _, -, -, hf', -, -, -, hown2, -⟩ := Cond.laysFinal_spec hlay
    have e1 : c' = cf := by have := hi.symm.trans hf'; simp at this; exact this.1.symm
    have hdecl : (T f).1 = own := hdecl _ hc
    rw [hdecl] at hown2
    rw [← e1]; exact Option.some.inj (E.o.symm.trans hown2)
  have h6 := u_fits hfc hkC hkind (Or.inr hlay) hi hpd hn hfit
  refine W.putFinK E.x E.c E.o (E.w _ hlk) (fl_same E.w hs _ hi) hst hcf E.nn (by rw [q2]; exact h6) q1 q3 (by rw [hsl]; exact k2_hasslot (q4 f hf)) rfl rfl hd fun H' e1 e2 e3 => ?_
  rw [hsl] at e1 ⊢
  exact K H' _ ls (gR_put a1 hG (by simp) e2 e3 ⟨_, hc, t_OB.to (V := updV (vp_V fs) f v) ⟨_, e1, q2, q3, t_set q4 hap hf v⟩ (fun j _ => vp_updV_set hl v j)⟩) (b.put e2 e3 (hN (by simp))) c
/-- a class's entry, resolved for 'new': class number ci, of N fields, born as fs -/
def NW (own : String) (index ci N : Nat) (fs : List Value) : Prop := ∃ C T, gCl[ci]? = some (C, T, N) ∧ (∀ w ∈ u_ws C T N, w ∈ lw_all) ∧ Cond.classLink own index C ∈ lw_all ∧ Cond.instantiable C N ∈ lw_all ∧ Cond.initialized C ∈ lw_all ∧ ∃ ty : Nat → FieldType, (∀ k, k < N → parseFieldDescriptor (T k).2.2.1 = some (ty k)) ∧ ∀ j, j < N → defaultValue (ty j) = vp_V fs j
theorem y_new (E : YE Γ Z own cc ret hh L mc ms nm) {index ci N : Nat} {fs : List Value} (t : Nat × Nat) (hd : decode cc pc = .ok (.new index, 3)) (hW : NW own index ci N fs) (hk : k + 1 ≤ mc) (hn : n + N ≤ ms) (K : ∀ q, G q = none → Y Γ Z (k + 1) (n + N) Q (gset G q (some t, .inr (ci, fs))) (pc + 3) lv (.ref q :: st)) : Y Γ Z k n Q G pc lv st := by
  obtain ⟨C, T, hc, hin, hcl, hinst, hini, ty, hty, hfs⟩ := hW
  intro H locs ls a b c
  have hKn := E.K.1 ci _ hc
  refine W.newcK E.x E.c E.o (E.w _ hcl) (E.w _ hinst) (E.w _ hini) rfl hd (by rw [E.rc]; exact hk) (by rw [E.rs]; exact hn) hKn.2.1 rfl fun H1 kC hkC e1 z1 o1 => ?_
  exact K H.size (gR_new a) H1 locs ls (gR_add a z1 o1 ⟨_, hc, (u_born ty E.w hin hKn hkC e1 hty).to hfs⟩) ⟨Nat.le_trans b.1 (by omega), fun x h1 h2 => (o1 x (Nat.lt_of_lt_of_le h1 b.1)).trans (b.2.1 x h1 h2), b.2.2⟩ c
/-! arrays -/
def aI (kd N : Nat) (w : Int → Int) : yE := .inl (kd, N, .inl (fun j : Nat => iI (w (j : Int))))
def aL (N : Nat) (f : Nat → Int64) : yE := .inl (1, N, .inr (.inl f))
def aD (N : Nat) (f : Nat → UInt64) : yE := .inl (4, N, .inr (.inr (.inr (.inl f))))
def aR (kd N : Nat) (f : Nat → Option Nat) : yE := .inl (kd, N, .inr (.inr (.inr (.inr f))))
def upI (w : Int → Int) (i v : Int) : Int → Int := fun j => if j = i then v else w j
theorem upI_s (w : Int → Int) (i v : Int) : upI w i v i = v := by simp [upI]
theorem upI_n {w : Int → Int} {i j : Int} (v : Int) (h : j ≠ i) : upI w i v j = w j := by simp [upI, h]
def upN {α : Type} (f : Nat → α) (i : Nat) (v : α) : Nat → α := fun j => if j = i then v else f j
theorem upN_s {α : Type} (f : Nat → α) (i : Nat) (v : α) : upN f i v i = v := by simp [upN]
theorem upN_n {α : Type} {f : Nat → α} {i j : Nat} (v : α) (h : j ≠ i) : upN f i v j = f j := by simp [upN, h]
theorem y_alen (E : YE Γ Z own cc ret hh L mc ms nm) {kd N a : Nat} {x : (Nat → Int32) ⊕ (Nat → Int64) ⊕ (Nat → UInt32) ⊕ (Nat → UInt64) ⊕ (Nat → Option Nat)} {t : yT} (hd : decode cc pc = .ok (.arraylength, 1)) (hG : G a = some (t, .inl (kd, N, x))) (hkd : kd < 7) (K : Y Γ Z k n Q G (pc + 1) lv (.int (iI (N : Int)) :: st)) : Y Γ Z k n Q G pc lv (.ref a :: st) := fun H locs ls a1 b c => va_alen E.x E.c E.K (va_P_1 (a1.2.2 a _ hG).2) 0 kd rfl (yTys_at Γ hkd) (v := iI (N : Int)) (by rw [← iI_nI]; rfl) hd (K H locs ls a1 b c)
theorem y_alenI (E : YE Γ Z own cc ret hh L mc ms nm) {kd N a : Nat} {w : Int → Int} {t : yT} (hd : decode cc pc = .ok (.arraylength, 1)) (hG : G a = some (t, aI kd N w)) (hkd : kd < 7) (K : Y Γ Z k n Q G (pc + 1) lv (.int (iI (N : Int)) :: st)) : Y Γ Z k n Q G pc lv (.ref a :: st) := y_alen E hd hG hkd K
theorem y_alenR (E : YE Γ Z own cc ret hh L mc ms nm) {kd N a : Nat} {f : Nat → Option Nat} {t : yT} (hd : decode cc pc = .ok (.arraylength, 1)) (hG : G a = some (t, aR kd N f)) (hkd : kd < 7) (K : Y Γ Z k n Q G (pc + 1) lv (.int (iI (N : Int)) :: st)) : Y Γ Z k n Q G pc lv (.ref a :: st) := y_alen E hd hG hkd K
theorem y_alenL (E : YE Γ Z own cc ret hh L mc ms nm) {N a : Nat} {f : Nat → Int64} {t : yT} (hd : decode cc pc = .ok (.arraylength, 1)) (hG : G a = some (t, aL N f)) (K : Y Γ Z k n Q G (pc + 1) lv (.int (iI (N : Int)) :: st)) : Y Γ Z k n Q G pc lv (.ref a :: st) := y_alen E hd hG (by decide) K
theorem iI_toN {i : Int} (h0 : 0 ≤ i) : ((i.toNat : Nat) : Int) = i := Int.toNat_of_nonneg h0
theorem y_iald (E : YE Γ Z own cc ret hh L mc ms nm) {N a : Nat} {w : Int → Int} {t : yT} {i : Int} (hd : decode cc pc = .ok (.iaload, 1)) (hG : G a = some (t, aI 0 N w)) (hi : 0 ≤ i ∧ i < (N : Int) ∧ i ≤ 2147483647) (K : Y Γ Z k n Q G (pc + 1) lv (.int (iI (w i)) :: st)) : Y Γ Z k n Q G pc lv (.int (iI i) :: .ref a :: st) := fun H locs ls a1 b c => va_iald E.x E.c E.K (va_P_1 (a1.2.2 a _ hG).2) 0 0 rfl (yTys_at Γ (by decide)) (iI_in hi.1 hi.2.1 hi.2.2) hd (by rw [iI_clamp hi.1 hi.2.2, iI_toN hi.1]; exact K H locs ls a1 b c)
theorem y_bald (E : YE Γ Z own cc ret hh L mc ms nm) {N a : Nat} {w : Int → Int} {t : yT} {i : Int} (hd : decode cc pc = .ok (.baload, 1)) (hG : G a = some (t, aI 2 N w)) (hi : 0 ≤ i ∧ i < (N : Int) ∧ i ≤ 2147483647) (K : Y Γ Z k n Q G (pc + 1) lv (.int (iI (w i)) :: st)) : Y Γ Z k n Q G pc lv (.int (iI i) :: .ref a :: st) := fun H locs ls a1 b c => va_bald E.x E.c E.K (va_P_1 (a1.2.2 a _ hG).2) 0 2 rfl (yTys_at Γ (by decide)) (iI_in hi.1 hi.2.1 hi.2.2) hd (by rw [iI_clamp hi.1 hi.2.2, iI_toN hi.1]; exact K H locs ls a1 b c)
theorem y_cald (E : YE Γ Z own cc ret hh L mc ms nm) {N a : Nat} {w : Int → Int} {t : yT} {i : Int} (hd : decode cc pc = .ok (.caload, 1)) (hG : G a = some (t, aI 3 N w)) (hi : 0 ≤ i ∧ i < (N : Int) ∧ i ≤ 2147483647) (K : Y Γ Z k n Q G (pc + 1) lv (.int (iI (w i)) :: st)) : Y Γ Z k n Q G pc lv (.int (iI i) :: .ref a :: st) := fun H locs ls a1 b c => va_cald E.x E.c E.K (va_P_1 (a1.2.2 a _ hG).2) 0 3 rfl (yTys_at Γ (by decide)) (iI_in hi.1 hi.2.1 hi.2.2) hd (by rw [iI_clamp hi.1 hi.2.2, iI_toN hi.1]; exact K H locs ls a1 b c)
theorem y_lald (E : YE Γ Z own cc ret hh L mc ms nm) {N a : Nat} {f : Nat → Int64} {t : yT} {i : Int} (hd : decode cc pc = .ok (.laload, 1)) (hG : G a = some (t, aL N f)) (hi : 0 ≤ i ∧ i < (N : Int) ∧ i ≤ 2147483647) (K : Y Γ Z k n Q G (pc + 1) lv (.long (f i.toNat) :: st)) : Y Γ Z k n Q G pc lv (.int (iI i) :: .ref a :: st) := fun H locs ls a1 b c => va_lald E.x E.c E.K (va_P_1 (a1.2.2 a _ hG).2) 0 1 rfl (yTys_at Γ (by decide)) (iI_in hi.1 hi.2.1 hi.2.2) hd (by rw [iI_clamp hi.1 hi.2.2]; exact K H locs ls a1 b c)
theorem y_dald (E : YE Γ Z own cc ret hh L mc ms nm) {N a : Nat} {f : Nat → UInt64} {t : yT} {i : Int} (hd : decode cc pc = .ok (.daload, 1)) (hG : G a = some (t, aD N f)) (hi : 0 ≤ i ∧ i < (N : Int) ∧ i ≤ 2147483647) (K : Y Γ Z k n Q G (pc + 1) lv (.double (f i.toNat) :: st)) : Y Γ Z k n Q G pc lv (.int (iI i) :: .ref a :: st) := fun H locs ls a1 b c => va_dald E.x E.c E.K (va_P_1 (a1.2.2 a _ hG).2) 0 4 rfl (yTys_at Γ (by decide)) (iI_in hi.1 hi.2.1 hi.2.2) hd (by rw [iI_clamp hi.1 hi.2.2]; exact K H locs ls a1 b c)
theorem y_aald (E : YE Γ Z own cc ret hh L mc ms nm) {N a : Nat} {f : Nat → Option Nat} {t : yT} {i : Int} (kd : Nat) {C : String} (hC : gAty kd = .object C) (hkd : kd < 7) (hd : decode cc pc = .ok (.aaload, 1)) (hG : G a = some (t, aR kd N f)) (hi : 0 ≤ i ∧ i < (N : Int) ∧ i ≤ 2147483647) (K : Y Γ Z k n Q G (pc + 1) lv (va_rf (f i.toNat) :: st)) : Y Γ Z k n Q G pc lv (.int (iI i) :: .ref a :: st) := fun H locs ls a1 b c => va_aldq E.x E.c E.K (va_P_1 (a1.2.2 a _ hG).2) 0 kd rfl (by rw [yTys_at Γ hkd, hC]) (iI_in hi.1 hi.2.1 hi.2.2) hd (by rw [iI_clamp hi.1 hi.2.2]; exact K H locs ls a1 b c)
theorem y_iast (E : YE Γ Z own cc ret hh L mc ms nm) {N a : Nat} {w : Int → Int} {t : Nat × Nat} {i x : Int} (hd : decode cc pc = .ok (.iastore, 1)) (hG : G a = some (some t, aI 0 N w)) (hi : 0 ≤ i ∧ i < (N : Int) ∧ i ≤ 2147483647) (K : Y Γ Z k n Q (gset G a (some t, aI 0 N (upI w i x))) (pc + 1) lv st) : Y Γ Z k n Q G pc lv (.int (iI x) :: .int (iI i) :: .ref a :: st) := by
  intro H locs ls a1 b c
  obtain ⟨hN, hat⟩ := a1.2.2 a _ hG
  have hcell : H[a]? = some (vp_cell (ydA Γ 0) (N, .inl (fun j : Nat => iI (w (j : Int))))) := hat
  refine W.iast E.x E.c hcell ((E.K.2 0 _ (yTys_at Γ (by decide))).1 N (fun j => .int (iI (w (j : Int))))) (fun q => by cases q) (by show ¬ (_ ∨ (arrV _ _ _).slots.size ≤ _); rw [arrV_size]; exact iI_in hi.1 hi.2.1 hi.2.2) rfl rfl hd fun H1 e z oq => ?_
  refine K H1 _ ls (gR_put a1 hG (by simp) z oq ?_) (b.put z oq (hN (by simp))) c
  show H1[a]? = some (vp_cell _ _)
  rw [e, iI_clamp hi.1 hi.2.2]
  rw [vp_cell_i, vp_cell_i, arrV_store]
  congr 2
  funext q
  by_cases hq : q = i.toNat
  · subst hq
    show updV _ _ _ _ = Value.int (iI (upI w i x ((i.toNat : Nat) : Int)))
    rw [iI_toN hi.1, upI_s]
    simp [updV]
  · have h2 : ¬ (q : Int) = i := by omega
    simp [updV, upI, hq, h2]
theorem y_bast (E : YE Γ Z own cc ret hh L mc ms nm) {N a : Nat} {w : Int → Int} {t : Nat × Nat} {i x : Int} (hd : decode cc pc = .ok (.bastore, 1)) (hG : G a = some (some t, aI 2 N w)) (hi : 0 ≤ i ∧ i < (N : Int) ∧ i ≤ 2147483647) (hx : narrow .byte (.int (iI x)) = .int (iI x)) (K : Y Γ Z k n Q (gset G a (some t, aI 2 N (upI w i x))) (pc + 1) lv st) : Y Γ Z k n Q G pc lv (.int (iI x) :: .int (iI i) :: .ref a :: st) := by
  intro H locs ls a1 b c
  obtain ⟨hN, hat⟩ := a1.2.2 a _ hG
  have hcell : H[a]? = some (vp_cell (ydA Γ 2) (N, .inl (fun j : Nat => iI (w (j : Int))))) := hat
  refine W.bast E.x E.c hcell ((E.K.2 2 _ (yTys_at Γ (by decide))).1 N (fun j => .int (iI (w (j : Int))))) (fun q => by cases q) (by show ¬ (_ ∨ (arrV _ _ _).slots.size ≤ _); rw [arrV_size]; exact iI_in hi.1 hi.2.1 hi.2.2) rfl rfl hd fun H1 e z oq => ?_
  refine K H1 _ ls (gR_put a1 hG (by simp) z oq ?_) (b.put z oq (hN (by simp))) c
  show H1[a]? = some (vp_cell _ _)
  rw [e, iI_clamp hi.1 hi.2.2]
  rw [vp_cell_i, vp_cell_i, arrV_store]
  congr 2
  funext q
  by_cases hq : q = i.toNat
  · subst hq
    show updV _ _ _ _ = Value.int (iI (upI w i x ((i.toNat : Nat) : Int)))
    rw [iI_toN hi.1, upI_s]
    simp [updV, hx]
  · have h2 : ¬ (q : Int) = i := by omega
    simp [updV, upI, hq, h2]
theorem y_cast (E : YE Γ Z own cc ret hh L mc ms nm) {N a : Nat} {w : Int → Int} {t : Nat × Nat} {i x : Int} (hd : decode cc pc = .ok (.castore, 1)) (hG : G a = some (some t, aI 3 N w)) (hi : 0 ≤ i ∧ i < (N : Int) ∧ i ≤ 2147483647) (hx : narrow .char (.int (iI x)) = .int (iI x)) (K : Y Γ Z k n Q (gset G a (some t, aI 3 N (upI w i x))) (pc + 1) lv st) : Y Γ Z k n Q G pc lv (.int (iI x) :: .int (iI i) :: .ref a :: st) := by
  intro H locs ls a1 b c
  obtain ⟨hN, hat⟩ := a1.2.2 a _ hG
  have hcell : H[a]? = some (vp_cell (ydA Γ 3) (N, .inl (fun j : Nat => iI (w (j : Int))))) := hat
  refine W.cast E.x E.c hcell ((E.K.2 3 _ (yTys_at Γ (by decide))).1 N (fun j => .int (iI (w (j : Int))))) (fun q => by cases q) (by show ¬ (_ ∨ (arrV _ _ _).slots.size ≤ _); rw [arrV_size]; exact iI_in hi.1 hi.2.1 hi.2.2) rfl rfl hd fun H1 e z oq => ?_
  refine K H1 _ ls (gR_put a1 hG (by simp) z oq ?_) (b.put z oq (hN (by simp))) c
  show H1[a]? = some (vp_cell _ _)
  rw [e, iI_clamp hi.1 hi.2.2]
  rw [vp_cell_i, vp_cell_i, arrV_store]
  congr 2
  funext q
  by_cases hq : q = i.toNat
  · subst hq
    show updV _ _ _ _ = Value.int (iI (upI w i x ((i.toNat : Nat) : Int)))
    rw [iI_toN hi.1, upI_s]
    simp [updV, hx]
  · have h2 : ¬ (q : Int) = i := by omega
    simp [updV, upI, hq, h2]
theorem y_last (E : YE Γ Z own cc ret hh L mc ms nm) {N a : Nat} {f : Nat → Int64} {t : Nat × Nat} {i : Int} {x : Int64} (hd : decode cc pc = .ok (.lastore, 1)) (hG : G a = some (some t, aL N f)) (hi : 0 ≤ i ∧ i < (N : Int) ∧ i ≤ 2147483647) (K : Y Γ Z k n Q (gset G a (some t, aL N (upN f i.toNat x))) (pc + 1) lv st) : Y Γ Z k n Q G pc lv (.long x :: .int (iI i) :: .ref a :: st) := by
  intro H locs ls a1 b c
  obtain ⟨hN, hat⟩ := a1.2.2 a _ hG
  have hcell : H[a]? = some (vp_cell (ydA Γ 1) (N, .inr (.inl f))) := hat
  refine W.last E.x E.c hcell ((E.K.2 1 _ (yTys_at Γ (by decide))).1 N (fun j => .long (f j))) (fun q => by cases q) (by show ¬ (_ ∨ (arrV _ _ _).slots.size ≤ _); rw [arrV_size]; exact iI_in hi.1 hi.2.1 hi.2.2) rfl rfl hd fun H1 e z oq => ?_
  refine K H1 _ ls (gR_put a1 hG (by simp) z oq ?_) (b.put z oq (hN (by simp))) c
  show H1[a]? = some (vp_cell _ _)
  rw [e, iI_clamp hi.1 hi.2.2]
  rw [vp_cell_l, vp_cell_l, arrV_store]
  congr 2
  funext q
  by_cases hq : q = i.toNat
  · subst hq
    simp [updV, upN]
  · simp [updV, upN, hq]
theorem y_dast (E : YE Γ Z own cc ret hh L mc ms nm) {N a : Nat} {f : Nat → UInt64} {t : Nat × Nat} {i : Int} {x : UInt64} (hd : decode cc pc = .ok (.dastore, 1)) (hG : G a = some (some t, aD N f)) (hi : 0 ≤ i ∧ i < (N : Int) ∧ i ≤ 2147483647) (K : Y Γ Z k n Q (gset G a (some t, aD N (upN f i.toNat x))) (pc + 1) lv st) : Y Γ Z k n Q G pc lv (.double x :: .int (iI i) :: .ref a :: st) := by
  intro H locs ls a1 b c
  obtain ⟨hN, hat⟩ := a1.2.2 a _ hG
  have hcell : H[a]? = some (vp_cell (ydA Γ 4) (N, .inr (.inr (.inr (.inl f))))) := hat
  refine W.dast E.x E.c hcell ((E.K.2 4 _ (yTys_at Γ (by decide))).1 N (fun j => .double (f j))) (fun q => by cases q) (by show ¬ (_ ∨ (arrV _ _ _).slots.size ≤ _); rw [arrV_size]; exact iI_in hi.1 hi.2.1 hi.2.2) rfl rfl hd fun H1 e z oq => ?_
  refine K H1 _ ls (gR_put a1 hG (by simp) z oq ?_) (b.put z oq (hN (by simp))) c
  show H1[a]? = some (vp_cell _ _)
  rw [e, iI_clamp hi.1 hi.2.2]
  rw [vp_cell_d, vp_cell_d, arrV_store]
  congr 2
  funext q
  by_cases hq : q = i.toNat
  · subst hq
    simp [updV, upN]
  · simp [updV, upN, hq]
/-- what may be put into an array of the kind kd: null, or an object whose class is castable to the kind's -/
def okR (G : yH) (E9 : String) (r : Option Nat) : Prop := ∀ v, r = some v → ∃ t ci fs q, G v = some (t, .inr (ci, fs)) ∧ gCl[ci]? = some q ∧ (q.1 = E9 ∨ Cond.castable q.1 E9 ∈ lw_tbl)
theorem y_aast (E : YE Γ Z own cc ret hh L mc ms nm) {N a : Nat} {f : Nat → Option Nat} {t : Nat × Nat} {i : Int} {r : Option Nat} (kd : Nat) {C : String} (hC : gAty kd = .object C) (hkd : kd < 7) (hd : decode cc pc = .ok (.aastore, 1)) (hG : G a = some (some t, aR kd N f)) (hi : 0 ≤ i ∧ i < (N : Int) ∧ i ≤ 2147483647) (hr : okR G C r) (K : Y Γ Z k n Q (gset G a (some t, aR kd N (upN f i.toNat r))) (pc + 1) lv st) : Y Γ Z k n Q G pc lv (va_rf r :: .int (iI i) :: .ref a :: st) := by
  intro H locs ls a1 b c
  obtain ⟨hN, hat⟩ := a1.2.2 a _ hG
  have hcell : H[a]? = some (vp_cell (ydA Γ kd) (N, .inr (.inr (.inr (.inr f))))) := hat
  have hty : (yTys Γ)[kd]? = some (ydA Γ kd, .object C) := by rw [yTys_at Γ hkd, hC]
  have hin := iI_in hi.1 hi.2.1 hi.2.2
  have h0 : ¬ iI i < 0 := fun q => hin (Or.inl q)
  have hlt : (iI i).toNatClampNeg < N := Nat.not_le.mp fun q => hin (Or.inr q)
  obtain ⟨kA, comp, k1, k2, k3, -⟩ := (E.K.2 kd _ hty).2
  obtain ⟨kE, hkE, -⟩ := Vm.findClass_spec k3
  have fin : ∀ H1 : Heap, H1[a]? = some ((vp_cell (ydA Γ kd) (N, .inr (.inr (.inr (.inr f))))).setSlot (iI i).toNatClampNeg (va_rf r)) → H1.size = H.size → (∀ q, q ≠ a → H1[q]? = H[q]?) → W (zp Z) (yl Γ) (ze Z) (zR Z) (zs Z) (zm Z) (za Z) (zb Z) (zM Z) (zc Z) H1 (locs ++ [⟨a, (iI i).toNatClampNeg⟩]) k n Q (F0 (zm Z) (pc + 1) ls st) := by
    intro H1 e z oq
    refine K H1 _ ls (gR_put a1 hG (by simp) z oq ?_) (b.put z oq (hN (by simp))) c
    show H1[a]? = some (vp_cell _ _)
    rw [e, iI_clamp hi.1 hi.2.2]
    rw [vp_cell_q, vp_cell_q, arrV_store]
    congr 2
    funext q
    by_cases hq : q = i.toNat
    · subst hq
      simp [updV, upN]
    · simp [updV, upN, hq]
  cases r with
  | none => exact va_WaastN (C := C) E.x E.c hcell ((E.K.2 kd _ hty).1 N (fun j => va_rf (f j))) (fun h => by cases h) (by show ¬ (_ ∨ (arrV _ _ _).slots.size ≤ _); rw [arrV_size]; exact hin) rfl rfl hd fin
  | some v =>
    obtain ⟨t', ci, fs, q, g0, g1, g2⟩ := hr v rfl
    have hP := va_P_1 (a1.2.2 v _ g0).2
    have hrec := va_recv (q0 := 0) E.K hP g1 rfl
    obtain ⟨cellV, g3, g4, g5⟩ := hrec
    obtain ⟨kC, hkC, -⟩ := Vm.findClass_spec g5
    refine W.aast E.x E.c hcell (fun q h => by cases h) (fun h => by cases h) k1 k2 rfl hkE ⟨h0, by show _ < (arrV _ _ _).slots.size; rw [arrV_size]; exact hlt⟩ g3 (fun q h => by rw [h] at g4; cases g4) hkC ?_ rfl rfl hd fin
    rcases g2 with g2 | g2
    · subst g2
      have := (E.K.1 ci q g1).2
      have e1 := k3.symm.trans g5
      cases e1
      have e2 := Option.some.inj (this.1.symm.trans g5)
      rw [← e2]
      exact va_assign this
    · have := va_Nw.use (A := za Z) rfl (E.kk.2.2.1 _ g2 rfl)
      obtain ⟨c0, t0, f1, f2, f3⟩ := Cond.castable_spec this
      cases k3.symm.trans f2
      cases g5.symm.trans f1
      exact f3
/-! ===== calls ===== -/
theorem y_run {mc' ms' : Nat} {rest : List Value} {Post : Option Value → yH → Prop} {PX : String → yH → Prop} {a : Array Value} (hr : ∀ (H : Heap) (locs : List Loc) (ls : Array Slot), gR Γ G H → va_S (yA Γ) (zs Z).heap H locs → hasL ls (zc Z).maxLocals lv → vx_Run (zp Z) (yl Γ) (ze Z) (zR Z) (zs Z) (zm Z) (za Z) (zb Z) (zM Z) (zc Z) H locs k n mc' ms' (F0 (zm Z) pc ls st) rest (gQ Γ Post a) (gX Γ PX) (yA Γ)) (K : ∀ v G', Post v G' → Y Γ Z (k + mc') (n + ms') Q G' (pc + 3) lv (v.toList ++ rest)) (KX : ∀ Ex q G', PX Ex G' → Yx Γ Z (k + mc') (n + ms') Q G' pc lv Ex q) : Y Γ Z k n Q G pc lv st := by
  intro H locs ls a1 b c T hT X
  rcases hr H locs ls a1 b c T hT X with ⟨v, st₀, t, T', L, h0, X', hL, e1, e2, ⟨⟨v', G', hv, hp, hg⟩, hF⟩, stp⟩ | ⟨q, st₀, t, T', L, Ex, ce, h0, X', hL, e1, e2, ⟨⟨G', hp, hg⟩, hF⟩, hce, hcv, hcl, stp⟩
  · cases hv
    obtain ⟨-, -, k3⟩ := vx_keep h0 e1 b (fun _ _ h => h) (fun _ h => h) hL hF
    obtain ⟨t2, a2, b2⟩ := K _ G' hp T'.heap (locs ++ L) ls (by rw [e1]; exact hg) k3 c T' rfl X'
    exact ⟨t2, stp t2 a2, b2⟩
  · obtain ⟨-, -, k3⟩ := vx_keep h0 e1 b (fun _ _ h => h) (fun _ h => h) hL hF
    obtain ⟨t2, a2, b2⟩ := KX Ex q G' hp T'.heap (locs ++ L) ls rest ce (by rw [e1]; exact hg) k3 c (by rw [e1]; exact hce) hcv hcl T' rfl X'
    exact ⟨t2, stp.trans a2, b2⟩
theorem y_run5 {mc' ms' : Nat} {rest : List Value} {Post : Option Value → yH → Prop} {PX : String → yH → Prop} {a : Array Value} (hr : ∀ (H : Heap) (locs : List Loc) (ls : Array Slot), gR Γ G H → va_S (yA Γ) (zs Z).heap H locs → hasL ls (zc Z).maxLocals lv → vx_Run5 (zp Z) (yl Γ) (ze Z) (zR Z) (zs Z) (zm Z) (za Z) (zb Z) (zM Z) (zc Z) H locs k n mc' ms' (F0 (zm Z) pc ls st) rest (gQ Γ Post a) (gX Γ PX) (yA Γ)) (K : ∀ v G', Post v G' → Y Γ Z (k + mc') (n + ms') Q G' (pc + 5) lv (v.toList ++ rest)) (KX : ∀ Ex q G', PX Ex G' → Yx Γ Z (k + mc') (n + ms') Q G' pc lv Ex q) : Y Γ Z k n Q G pc lv st := by
  intro H locs ls a1 b c T hT X
  rcases hr H locs ls a1 b c T hT X with ⟨v, st₀, t, T', L, h0, X', hL, e1, e2, ⟨⟨v', G', hv, hp, hg⟩, hF⟩, stp⟩ | ⟨q, st₀, t, T', L, Ex, ce, h0, X', hL, e1, e2, ⟨⟨G', hp, hg⟩, hF⟩, hce, hcv, hcl, stp⟩
  · cases hv
    obtain ⟨-, -, k3⟩ := vx_keep h0 e1 b (fun _ _ h => h) (fun _ h => h) hL hF
    obtain ⟨t2, a2, b2⟩ := K _ G' hp T'.heap (locs ++ L) ls (by rw [e1]; exact hg) k3 c T' rfl X'
    exact ⟨t2, stp t2 a2, b2⟩
  · obtain ⟨-, -, k3⟩ := vx_keep h0 e1 b (fun _ _ h => h) (fun _ h => h) hL hF
    obtain ⟨t2, a2, b2⟩ := KX Ex q G' hp T'.heap (locs ++ L) ls rest ce (by rw [e1]; exact hg) k3 c (by rw [e1]; exact hce) hcv hcl T' rfl X'
    exact ⟨t2, stp.trans a2, b2⟩
theorem y_room (E : YE Γ Z own cc ret hh L mc ms nm) {L' mc' ms' nL' : Nat} (hL : L' < L) (hl : nL' ≤ 100) : (rmOf L' mc' ms').frames + 1 ≤ (zR Z).frames ∧ 8 + (nL' + 11) + (rmOf L' mc' ms').locals ≤ (zR Z).locals := by
  rw [E.rf, E.rl]
  show 8 * L' + 1 ≤ 8 * L ∧ 8 + (nL' + 11) + 200 * L' ≤ 200 * L
  omega
theorem y_cells (E : YE Γ Z own cc ret hh L mc ms nm) {mc' ms' : Nat} (hk : k + mc' ≤ mc) (hn : n + ms' ≤ ms) : k + mc' ≤ (zR Z).cells ∧ n + ms' ≤ (zR Z).slots := by
  rw [E.rc, E.rs]
  exact ⟨hk, hn⟩
theorem KK_same {s U : State} (h : s.vm = U.vm) (hK : KK Γ s) : KK Γ U := by
  obtain ⟨h1, h2, h3, h4, h5, h6⟩ := hK
  have ha : s.vm.Alike U.vm := by rw [h]; exact Vm.Alike.refl _
  exact ⟨h1, h2.moved ha, fun w hw hn => nest_same hn h (h3 w hw hn), fun t ht => va_Fw.moved (gFw_ok t ht) ha (h4 t ht), fun C hC => va_AO.moved ha (h5 C hC), gSt_alike ha (fun q => q.same h.symm) h6⟩
theorem y_blind {args : List Value} : FrameBlind (va_Pc args (fun U => KK Γ U ∧ gR Γ G U.heap)) := fun a U g mk q => ⟨q.1, KK_same (s := U) rfl q.2.1, q.2.2⟩
theorem y_pre (E : YE Γ Z own cc ret hh L mc ms nm) {H : Heap} (hg : gR Γ G H) {args : List Value} : ∀ U : State, U.heap = H → (zs Z).WarmedH U.vm → va_Pc args (fun U => KK Γ U ∧ gR Γ G U.heap) args.toArray U := fun U hU hW => ⟨rfl, KK_warm hW E.kk, by rw [hU]; exact hg⟩
def mdOk (y : MethodName) (n : Nat) : Prop := y.cls ≠ "java/lang/invoke/MethodHandle" ∧ y.cls ≠ "java/lang/invoke/VarHandle" ∧ (parseMethodDescriptor y.desc).map (fun d => d.parameters.length) = some n
/-- a call through an object, of a method of its own class -/
def LV (own : String) (index : Nat) (C : String) (y : MethodName) (cc : ByteArray) (nL : Nat) (ret : Option FieldType) (n : Nat) : Prop := Cond.methodLink own index y ∈ lw_all ∧ Cond.instanceMethod y ∈ lw_all ∧ Cond.selects C y y ∈ lw_all ∧ Cond.initialized C ∈ lw_all ∧ Cond.code y cc nL ret ∈ lw_all ∧ y.cls = C ∧ mdOk y n ∧ nL ≤ 100
def LSt (own : String) (index : Nat) (y : MethodName) (cc : ByteArray) (nL : Nat) (ret : Option FieldType) (n : Nat) : Prop := Cond.methodLink own index y ∈ lw_all ∧ Cond.static y ∈ lw_all ∧ Cond.initialized y.cls ∈ lw_all ∧ Cond.code y cc nL ret ∈ lw_all ∧ mdOk y n ∧ nL ≤ 100
def LI (own : String) (index : Nat) (y : MethodName) (cc : ByteArray) (nL : Nat) (n : Nat) : Prop := Cond.methodLink own index y ∈ lw_all ∧ Cond.instanceMethod y ∈ lw_all ∧ Cond.initialized y.cls ∈ lw_all ∧ Cond.code y cc nL none ∈ lw_all ∧ y.name = "<init>" ∧ mdOk y n ∧ nL ≤ 100
def LIN (own : String) (index : Nat) (y : MethodName) (host : String) (cc : ByteArray) (nL : Nat) (n : Nat) : Prop := Cond.methodLinkNest own index y host ∈ lw_tbl ∧ Cond.instanceMethod y ∈ lw_all ∧ Cond.initialized y.cls ∈ lw_all ∧ Cond.code y cc nL none ∈ lw_all ∧ y.name = "<init>" ∧ mdOk y n ∧ nL ≤ 100
/-- a call through an object of class C of the method x, that owner declares; y is what C runs -/
def LU (own : String) (index : Nat) (C owner : String) (x y : MethodName) (cc : ByteArray) (nL : Nat) (ret : Option FieldType) (n : Nat) : Prop := Cond.methodLink own index x ∈ lw_all ∧ Cond.sameMethod x.cls owner x.name x.desc ∈ lw_all ∧ Cond.declares ⟨owner, x.name, x.desc⟩ ∈ lw_tbl ∧ Cond.selects C x y ∈ lw_all ∧ Cond.instanceMethod y ∈ lw_all ∧ Cond.initialized y.cls ∈ lw_all ∧ Cond.code y cc nL ret ∈ lw_all ∧ (owner ≠ "java/lang/invoke/MethodHandle" ∧ owner ≠ "java/lang/invoke/VarHandle" ∧ (parseMethodDescriptor x.desc).map (fun d => d.parameters.length) = some n) ∧ nL ≤ 100
/-- the same where the tables have the code of what owner declares -/
def LO (own : String) (index : Nat) (C owner : String) (x y : MethodName) (cc : ByteArray) (nL : Nat) (ret : Option FieldType) (n : Nat) : Prop := Cond.methodLink own index x ∈ lw_all ∧ Cond.sameMethod x.cls owner x.name x.desc ∈ lw_all ∧ Cond.instanceMethod ⟨owner, x.name, x.desc⟩ ∈ lw_all ∧ (∃ b0 m0 r0, Cond.code ⟨owner, x.name, x.desc⟩ b0 m0 r0 ∈ lw_all) ∧ Cond.selects C x y ∈ lw_all ∧ Cond.instanceMethod y ∈ lw_all ∧ Cond.initialized y.cls ∈ lw_all ∧ Cond.code y cc nL ret ∈ lw_all ∧ (owner ≠ "java/lang/invoke/MethodHandle" ∧ owner ≠ "java/lang/invoke/VarHandle" ∧ (parseMethodDescriptor x.desc).map (fun d => d.parameters.length) = some n) ∧ nL ≤ 100
/-- super.y(..) -/
def LSU (own : String) (index : Nat) (y : MethodName) (cc : ByteArray) (nL : Nat) (ret : Option FieldType) (n : Nat) : Prop := Cond.methodLink own index y ∈ lw_all ∧ Cond.sameMethod y.cls y.cls y.name y.desc ∈ lw_all ∧ Cond.superclass own y.cls ∈ lw_all ∧ Cond.instanceMethod y ∈ lw_all ∧ Cond.initialized y.cls ∈ lw_all ∧ Cond.code y cc nL ret ∈ lw_all ∧ (y.name ≠ "<init>" ∧ (parseMethodDescriptor y.desc).map (fun d => d.parameters.length) = some n) ∧ nL ≤ 100
/-- through an interface -/
def LF (own : String) (index : Nat) (C : String) (x y : MethodName) (cc : ByteArray) (nL : Nat) (ret : Option FieldType) (n : Nat) : Prop := Cond.methodLink own index x ∈ lw_all ∧ Cond.selects C x y ∈ lw_all ∧ Cond.instanceMethod y ∈ lw_all ∧ Cond.initialized y.cls ∈ lw_all ∧ Cond.code y cc nL ret ∈ lw_all ∧ (C, x, y) ∈ gFw ∧ mdOk x n ∧ nL ≤ 100
theorem y_recv (E : YE Γ Z own cc ret hh L mc ms nm) {H : Heap} (hg : gR Γ G H) {b ci : Nat} {t : yT} {fs : List Value} {C : String} (hG : G b = some (t, .inr (ci, fs))) (hc : (gCl[ci]?).map (fun q => q.1) = some C) : ∃ cell : Cell, H[b]? = some cell ∧ cell.vm.isStatics = false ∧ (zs Z).vm.findClass C = some cell.cls := by
  cases h : gCl[ci]? with
  | none => rw [h] at hc; cases hc
  | some q =>
    rw [h] at hc
    cases hc
    exact va_recv (q0 := 0) E.K (va_P_1 (hg.2.2 b _ hG).2) h rfl
section Calls
variable {y : MethodName} {cc' : ByteArray} {nL' : Nat} {ret' : Option FieldType} {L' mc' ms' n' : Nat} {As rest : List Value} {Post : Option Value → yH → Prop} {PX : String → yH → Prop}
theorem y_callV (E : YE Γ Z own cc ret hh L mc ms nm) {index ci b : Nat} {C : String} {t : yT} {fs : List Value} (hd : decode cc pc = .ok (.invokevirtual index, 3)) (hW : LV own index C y cc' nL' ret' n') (hC : Ct Γ y cc' nL' ret' L' mc' ms' (.ref b :: As) G Post PX) (hst : st = As.reverse ++ .ref b :: rest) (hG : G b = some (t, .inr (ci, fs))) (hc : (gCl[ci]?).map (fun q => q.1) = some C) (hL : L' < L) (hk : k + mc' ≤ mc) (hn : n + ms' ≤ ms) (hlen : As.length = n') (hcat : (rest.map fun v => v.category).sum ≤ 8) (K : ∀ v G', Post v G' → Y Γ Z (k + mc') (n + ms') Q G' (pc + 3) lv (v.toList ++ rest)) (KX : ∀ Ex q G', PX Ex G' → Yx Γ Z (k + mc') (n + ms') Q G' pc lv Ex q) : Y Γ Z k n Q G pc lv st := by
  obtain ⟨w1, w2, w3, w4, w5, hcl, hm, hnl⟩ := hW
  refine y_run (fun H locs ls a b' c => vx_runV ⟨E.x, E.c, rfl, E.o, E.w⟩ hC (cwV n' E.w (lw_V w1 w2 w3 w4 w5) rfl rfl rfl ⟨hcl, hm⟩ (y_room E hL hnl)) ⟨y_blind, y_recv E a hG hc, y_pre E a⟩ rfl hlen c.2.1 hst (lv_room hcat) hd (y_cells E hk hn)) K KX
theorem y_callS (E : YE Γ Z own cc ret hh L mc ms nm) {index : Nat} (hd : decode cc pc = .ok (.invokestatic index, 3)) (hW : LSt own index y cc' nL' ret' n') (hC : Ct Γ y cc' nL' ret' L' mc' ms' As G Post PX) (hst : st = As.reverse ++ rest) (hL : L' < L) (hk : k + mc' ≤ mc) (hn : n + ms' ≤ ms) (hlen : As.length = n') (hcat : (rest.map fun v => v.category).sum ≤ 8) (K : ∀ v G', Post v G' → Y Γ Z (k + mc') (n + ms') Q G' (pc + 3) lv (v.toList ++ rest)) (KX : ∀ Ex q G', PX Ex G' → Yx Γ Z (k + mc') (n + ms') Q G' pc lv Ex q) : Y Γ Z k n Q G pc lv st := by
  obtain ⟨w1, w2, w3, w4, hm, hnl⟩ := hW
  refine y_run (fun H locs ls a b' c => vx_runS ⟨E.x, E.c, rfl, E.o, E.w⟩ hC (va_cwS n' E.w (lw_S w1 w2 w3 w4) rfl rfl rfl hm (y_room E hL hnl)) ⟨y_blind, y_pre E a⟩ rfl hlen c.2.1 hst (lv_room hcat) hd (y_cells E hk hn)) K KX
theorem y_callI (E : YE Γ Z own cc ret hh L mc ms nm) {index b : Nat} (hd : decode cc pc = .ok (.invokespecial index, 3)) (hW : LI own index y cc' nL' n') (hC : Ct Γ y cc' nL' none L' mc' ms' (.ref b :: As) G Post PX) (hst : st = As.reverse ++ .ref b :: rest) (hL : L' < L) (hk : k + mc' ≤ mc) (hn : n + ms' ≤ ms) (hlen : As.length = n') (hcat : (rest.map fun v => v.category).sum ≤ 8) (K : ∀ v G', Post v G' → Y Γ Z (k + mc') (n + ms') Q G' (pc + 3) lv (v.toList ++ rest)) (KX : ∀ Ex q G', PX Ex G' → Yx Γ Z (k + mc') (n + ms') Q G' pc lv Ex q) : Y Γ Z k n Q G pc lv st := by
  obtain ⟨w1, w2, w3, w4, h1, hm, hnl⟩ := hW
  refine y_run (fun H locs ls a b' c => vx_runI ⟨E.x, E.c, rfl, E.o, E.w⟩ hC (cwI n' E.w (lw_meth w4) rfl rfl rfl (E.w _ w3) (E.w _ w1) (E.w _ w2) h1 hm (y_room E hL hnl)) ⟨y_blind, y_pre E a⟩ rfl hlen c.2.1 hst (lv_room hcat) hd (y_cells E hk hn)) K KX
theorem y_callIN (E : YE Γ Z own cc ret hh L mc ms nm) {index b : Nat} {host : String} (hd : decode cc pc = .ok (.invokespecial index, 3)) (hW : LIN own index y host cc' nL' n') (hC : Ct Γ y cc' nL' none L' mc' ms' (.ref b :: As) G Post PX) (hst : st = As.reverse ++ .ref b :: rest) (hL : L' < L) (hk : k + mc' ≤ mc) (hn : n + ms' ≤ ms) (hlen : As.length = n') (hcat : (rest.map fun v => v.category).sum ≤ 8) (K : ∀ v G', Post v G' → Y Γ Z (k + mc') (n + ms') Q G' (pc + 3) lv (v.toList ++ rest)) (KX : ∀ Ex q G', PX Ex G' → Yx Γ Z (k + mc') (n + ms') Q G' pc lv Ex q) : Y Γ Z k n Q G pc lv st := by
  obtain ⟨w1, w2, w3, w4, h1, hm, hnl⟩ := hW
  refine y_run (fun H locs ls a b' c => vx_runIN ⟨E.x, E.c, rfl, E.o, E.w⟩ hC ⟨va_cnB n' E.w (lw_meth w4) rfl rfl rfl (E.kk.2.2.1 _ w1 rfl) (E.w _ w3) hm (y_room E hL hnl), h1, E.w _ w2⟩ ⟨y_blind, y_pre E a⟩ rfl hlen c.2.1 hst (lv_room hcat) hd (y_cells E hk hn)) K KX
theorem y_callU (E : YE Γ Z own cc ret hh L mc ms nm) {index ci b : Nat} {C owner : String} {x : MethodName} {t : yT} {fs : List Value} (hd : decode cc pc = .ok (.invokevirtual index, 3)) (hW : LU own index C owner x y cc' nL' ret' n') (hC : Ct Γ y cc' nL' ret' L' mc' ms' (.ref b :: As) G Post PX) (hst : st = As.reverse ++ .ref b :: rest) (hG : G b = some (t, .inr (ci, fs))) (hc : (gCl[ci]?).map (fun q => q.1) = some C) (hL : L' < L) (hk : k + mc' ≤ mc) (hn : n + ms' ≤ ms) (hlen : As.length = n') (hcat : (rest.map fun v => v.category).sum ≤ 8) (K : ∀ v G', Post v G' → Y Γ Z (k + mc') (n + ms') Q G' (pc + 3) lv (v.toList ++ rest)) (KX : ∀ Ex q G', PX Ex G' → Yx Γ Z (k + mc') (n + ms') Q G' pc lv Ex q) : Y Γ Z k n Q G pc lv st := by
  obtain ⟨w1, w2, w3, w4, w5, w6, w7, hm, hnl⟩ := hW
  refine y_run (fun H locs ls a b' c => vx_runU ⟨E.x, E.c, rfl, E.o, E.w⟩ hC (va_cwA n' E.w (lw_app (fun w hw => by simp only [List.mem_cons, List.not_mem_nil, or_false] at hw; rcases hw with e | e | e | e | e <;> (rw [e]; assumption)) (lw_meth w7)) rfl rfl rfl (E.kk.2.2.1 _ w3 rfl) hm (y_room E hL hnl)) ⟨y_blind, y_recv E a hG hc, y_pre E a⟩ rfl hlen c.2.1 hst (lv_room hcat) hd (y_cells E hk hn)) K KX
theorem y_callO (E : YE Γ Z own cc ret hh L mc ms nm) {index ci b : Nat} {C owner : String} {x : MethodName} {t : yT} {fs : List Value} (hd : decode cc pc = .ok (.invokevirtual index, 3)) (hW : LO own index C owner x y cc' nL' ret' n') (hC : Ct Γ y cc' nL' ret' L' mc' ms' (.ref b :: As) G Post PX) (hst : st = As.reverse ++ .ref b :: rest) (hG : G b = some (t, .inr (ci, fs))) (hc : (gCl[ci]?).map (fun q => q.1) = some C) (hL : L' < L) (hk : k + mc' ≤ mc) (hn : n + ms' ≤ ms) (hlen : As.length = n') (hcat : (rest.map fun v => v.category).sum ≤ 8) (K : ∀ v G', Post v G' → Y Γ Z (k + mc') (n + ms') Q G' (pc + 3) lv (v.toList ++ rest)) (KX : ∀ Ex q G', PX Ex G' → Yx Γ Z (k + mc') (n + ms') Q G' pc lv Ex q) : Y Γ Z k n Q G pc lv st := by
  obtain ⟨w1, w2, w3, ⟨b0, m0, r0, w4⟩, w5, w6, w7, w8, hm, hnl⟩ := hW
  refine y_run (fun H locs ls a b' c => vx_runU ⟨E.x, E.c, rfl, E.o, E.w⟩ hC (va_cwO n' E.w (lw_app (fun w hw => by simp only [List.mem_cons, List.not_mem_nil, or_false] at hw; rcases hw with e | e | e | e | e | e <;> (rw [e]; assumption)) (lw_meth w8)) rfl rfl rfl w4 hm (y_room E hL hnl)) ⟨y_blind, y_recv E a hG hc, y_pre E a⟩ rfl hlen c.2.1 hst (lv_room hcat) hd (y_cells E hk hn)) K KX
theorem y_callSU (E : YE Γ Z own cc ret hh L mc ms nm) {index ci b : Nat} {C : String} {T : u_T} {N : Nat} {t : yT} {fs : List Value} (hd : decode cc pc = .ok (.invokespecial index, 3)) (hW : LSU own index y cc' nL' ret' n') (hC : Ct Γ y cc' nL' ret' L' mc' ms' (.ref b :: As) G Post PX) (hst : st = As.reverse ++ .ref b :: rest) (hG : G b = some (t, .inr (ci, fs))) (hc : gCl[ci]? = some (C, T, N)) (hL : L' < L) (hk : k + mc' ≤ mc) (hn : n + ms' ≤ ms) (hlen : As.length = n') (hcat : (rest.map fun v => v.category).sum ≤ 8) (K : ∀ v G', Post v G' → Y Γ Z (k + mc') (n + ms') Q G' (pc + 3) lv (v.toList ++ rest)) (KX : ∀ Ex q G', PX Ex G' → Yx Γ Z (k + mc') (n + ms') Q G' pc lv Ex q) : Y Γ Z k n Q G pc lv st := by
  obtain ⟨w1, w2, w3, w4, w5, w6, hm, hnl⟩ := hW
  refine y_run (fun H locs ls a b' c => vx_runSU (E.K.1 ci _ hc).2 ⟨E.x, E.c, rfl, E.o, E.w⟩ hC (va_cwSU n' E.w (lw_app (fun w hw => by simp only [List.mem_cons, List.not_mem_nil, or_false] at hw; rcases hw with e | e | e | e | e <;> (rw [e]; assumption)) (lw_meth w6)) rfl rfl rfl hm (y_room E hL hnl)) ⟨y_blind, va_recv (q0 := 0) E.K (va_P_1 (a.2.2 b _ hG).2) hc rfl, y_pre E a⟩ rfl hlen c.2.1 hst (lv_room hcat) hd (y_cells E hk hn)) K KX
theorem y_callF (E : YE Γ Z own cc ret hh L mc ms nm) {index ci b count : Nat} {C : String} {T : u_T} {N : Nat} {x : MethodName} {t : yT} {fs : List Value} (hd : decode cc pc = .ok (.invokeinterface index count, 5)) (hW : LF own index C x y cc' nL' ret' n') (hC : Ct Γ y cc' nL' ret' L' mc' ms' (.ref b :: As) G Post PX) (hst : st = As.reverse ++ .ref b :: rest) (hG : G b = some (t, .inr (ci, fs))) (hc : gCl[ci]? = some (C, T, N)) (hL : L' < L) (hk : k + mc' ≤ mc) (hn : n + ms' ≤ ms) (hlen : As.length = n') (hcat : (rest.map fun v => v.category).sum ≤ 8) (K : ∀ v G', Post v G' → Y Γ Z (k + mc') (n + ms') Q G' (pc + 5) lv (v.toList ++ rest)) (KX : ∀ Ex q G', PX Ex G' → Yx Γ Z (k + mc') (n + ms') Q G' pc lv Ex q) : Y Γ Z k n Q G pc lv st := by
  obtain ⟨w1, w2, w3, w4, w5, w6, hm, hnl⟩ := hW
  refine y_run5 (fun H locs ls a b' c => vx_runF (E.K.1 ci _ hc).2 ⟨E.x, E.c, rfl, E.o, E.w⟩ hC (va_cwF n' E.w (lw_app (fun w hw => by simp only [List.mem_cons, List.not_mem_nil, or_false] at hw; rcases hw with e | e | e | e <;> (rw [e]; assumption)) (lw_meth w5)) rfl rfl rfl (E.kk.2.2.2.1 _ w6) hm (y_room E hL hnl)) ⟨y_blind, va_recv (q0 := 0) E.K (va_P_1 (a.2.2 b _ hG).2) hc rfl, y_pre E a⟩ rfl hlen c.2.1 hst (lv_room hcat) hd (y_cells E hk hn)) K KX
/-- Object.<init> -/
theorem y_objInit (E : YE Γ Z own cc ret hh L mc ms nm) {index b : Nat} {rest : List Value} (hd : decode cc pc = .ok (.invokespecial index, 3)) (w1 : Cond.methodLink own index Lib.objectInit ∈ lw_all) (w2 : Cond.instanceMethod Lib.objectInit ∈ lw_all) (w3 : Cond.code Lib.objectInit ⟨#[0xb1]⟩ 1 none ∈ lw_all) (hL : 0 < L) (hcat : (rest.map fun v => v.category).sum ≤ 8) (K : Y Γ Z k n Q G (pc + 3) lv rest) : Y Γ Z k n Q G pc lv (.ref b :: rest) := fun H locs ls a b' c =>
  W.objInit E.x E.c E.o (E.w _ w1) (E.w _ w2) (E.w _ w3) rfl c.2.1 rfl hd (by rw [E.rf]; omega) (by rw [E.rl]; have := lv_room (m := zm Z) (pc := pc) (ls := ls) (rest := (.ref b :: rest)) hcat; omega) (K H locs ls a b' c)
end Calls
/-! ===== ends ===== -/
theorem y_fin {Post : Option Value → yH → Prop} {PX : String → yH → Prop} (F : YF Γ Z Q mc ms Post PX) (hk : k ≤ mc) (hn : n ≤ ms) (h : ∀ (H : Heap) (locs : List Loc) (ls : Array Slot), gR Γ G H → va_S (yA Γ) (zs Z).heap H locs → W (zp Z) (yl Γ) (ze Z) (zR Z) (zs Z) (zm Z) (za Z) (zb Z) (zM Z) (zc Z) H locs mc ms (MQ (zb Z) (gQ Γ Post) (za Z) (zs Z) mc ms (yA Γ)) (F0 (zm Z) pc ls st)) : Y Γ Z k n Q G pc lv st := by
  intro H locs ls a b c
  rw [F]
  exact W.widen hk hn (vx_ret (h H locs ls a b))
theorem y_ireturn (E : YE Γ Z own cc ret hh L mc ms nm) {Post : Option Value → yH → Prop} {PX : String → yH → Prop} (F : YF Γ Z Q mc ms Post PX) {x : Int32} {ty : FieldType} (hret : ret = some ty) (hx : narrow ty (.int x) = .int x) (hd : decode cc pc = .ok (.ireturn, 1)) (hk : k ≤ mc) (hn : n ≤ ms) (hP : Post (some (.int x)) G) : Y Γ Z k n Q G pc lv [.int x] :=
  y_fin F hk hn (fun H locs ls a b => W.zret E.x E.c (E.r.trans hret) hx (fun t ht hW => ⟨⟨_, G, rfl, hP, by rw [ht]; exact a⟩, b.F ht⟩) b.2.2 hd E.lk)
theorem y_return (E : YE Γ Z own cc ret hh L mc ms nm) {Post : Option Value → yH → Prop} {PX : String → yH → Prop} (F : YF Γ Z Q mc ms Post PX) (hret : ret = none) (hd : decode cc pc = .ok (.return_, 1)) (hk : k ≤ mc) (hn : n ≤ ms) (hP : Post none G) : Y Γ Z k n Q G pc lv [] :=
  y_fin F hk hn (fun H locs ls a b => W.vret E.x E.c (E.r.trans hret) (fun t ht hW => ⟨⟨_, G, rfl, hP, by rw [ht]; exact a⟩, b.F ht⟩) b.2.2 hd E.lk)
theorem y_areturn (E : YE Γ Z own cc ret hh L mc ms nm) {Post : Option Value → yH → Prop} {PX : String → yH → Prop} (F : YF Γ Z Q mc ms Post PX) {r : Option Nat} {rt : FieldType} (hret : ret = some rt) (hrt : (∃ n, rt = .object n) ∨ ∃ t, rt = .array t) (hd : decode cc pc = .ok (.areturn, 1)) (hk : k ≤ mc) (hn : n ≤ ms) (hP : Post (some (va_rf r)) G) : Y Γ Z k n Q G pc lv [va_rf r] :=
  y_fin F hk hn (fun H locs ls a b => W.aret E.x E.c (E.r.trans hret) hrt (va_rf_or r) (fun t ht hW => ⟨⟨_, G, rfl, hP, by rw [ht]; exact a⟩, b.F ht⟩) b.2.2 hd E.lk)
theorem y_dreturn (E : YE Γ Z own cc ret hh L mc ms nm) {Post : Option Value → yH → Prop} {PX : String → yH → Prop} (F : YF Γ Z Q mc ms Post PX) {x : UInt64} (hret : ret = some .double) (hd : decode cc pc = .ok (.dreturn, 1)) (hk : k ≤ mc) (hn : n ≤ ms) (hP : Post (some (.double x)) G) : Y Γ Z k n Q G pc lv [.double x] :=
  y_fin F hk hn (fun H locs ls a b => W.dret E.x E.c (E.r.trans hret) (fun t ht hW => ⟨⟨_, G, rfl, hP, by rw [ht]; exact a⟩, b.F ht⟩) b.2.2 hd E.lk)
theorem y_freturn (E : YE Γ Z own cc ret hh L mc ms nm) {Post : Option Value → yH → Prop} {PX : String → yH → Prop} (F : YF Γ Z Q mc ms Post PX) {x : UInt32} (hret : ret = some .float) (hd : decode cc pc = .ok (.freturn, 1)) (hk : k ≤ mc) (hn : n ≤ ms) (hP : Post (some (.float x)) G) : Y Γ Z k n Q G pc lv [.float x] :=
  y_fin F hk hn (fun H locs ls a b => W.fret E.x E.c (E.r.trans hret) (fun t ht hW => ⟨⟨_, G, rfl, hP, by rw [ht]; exact a⟩, b.F ht⟩) b.2.2 hd E.lk)
theorem y_lreturn (E : YE Γ Z own cc ret hh L mc ms nm) {Post : Option Value → yH → Prop} {PX : String → yH → Prop} (F : YF Γ Z Q mc ms Post PX) {x : Int64} (hret : ret = some .long) (hd : decode cc pc = .ok (.lreturn, 1)) (hk : k ≤ mc) (hn : n ≤ ms) (hP : Post (some (.long x)) G) : Y Γ Z k n Q G pc lv [.long x] :=
  y_fin F hk hn (fun H locs ls a b => W.lret E.x E.c (E.r.trans hret) (fun t ht hW => ⟨⟨_, G, rfl, hP, by rw [ht]; exact a⟩, b.F ht⟩) b.2.2 hd E.lk)
/-- an exception leaves the method -/
theorem y_xout (E : YE Γ Z own cc ret [] L mc ms nm) {Post : Option Value → yH → Prop} {PX : String → yH → Prop} (F : YF Γ Z Q mc ms Post PX) {Ex : String} {q : Nat} (hk : k ≤ mc) (hn : n ≤ ms) (hP : PX Ex G) : Yx Γ Z k n Q G pc lv Ex q := by
  intro H locs ls rest ce a b c h1 h2 h3
  rw [F]
  exact vx_out (fun x hx => (tableOf_nil (by rw [← E.t]; exact hx)).elim) E.lk h1 h2 h3 (fun t ht hW => ⟨⟨G, hP, by rw [ht]; exact a⟩, b.F ht⟩) b.2.2 hk hn
end YRows2
end YB2

