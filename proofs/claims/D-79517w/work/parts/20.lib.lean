/-! ===== library over the layer: frames, value rows ===== -/
section YLib
variable {Γ : yG} {Z : yZ} {own : String} {cc : ByteArray} {ret : Option FieldType} {hh : List (Nat × Nat × Nat × Nat)} {L mc ms : Nat} {nm : String} {k n : Nat} {Q : State → Prop} {G : yH} {pc : Nat} {lv : List (Option Value)} {st : List Value}
theorem gset_gset (G : yH) (a : Nat) (v w : yT × yE) : gset (gset G a v) a w = gset G a w := by
  funext q
  unfold gset
  by_cases h : q = a <;> simp [h]
theorem gset_comm (G : yH) {a b : Nat} (v w : yT × yE) (h : a ≠ b) : gset (gset G a v) b w = gset (gset G b w) a v := by
  funext q
  unfold gset
  by_cases h1 : q = a
  · subst h1
    simp [h]
  · by_cases h2 : q = b
    · subst h2
      simp [h1]
    · simp [h1, h2]
/-- nothing changes but what has a tag in P -/
def gK (P : Nat × Nat → Prop) (G G' : yH) : Prop := ∀ q t e, G q = some (t, e) → (∀ τ, t = some τ → ¬ P τ) → G' q = some (t, e)
theorem gK_r (P : Nat × Nat → Prop) (G : yH) : gK P G G := fun _ _ _ h _ => h
theorem gK_t {P : Nat × Nat → Prop} {G G' G'' : yH} (h : gK P G G') (h' : gK P G' G'') : gK P G G'' := fun q t e a b => h' q t e (h q t e a b) b
theorem gK_e {P : Nat × Nat → Prop} {G G' : yH} (h : gExt G G') : gK P G G' := fun q t e a _ => h q _ a
theorem gK_m {P P' : Nat × Nat → Prop} {G G' : yH} (h : gK P G G') (hp : ∀ τ, P τ → P' τ) : gK P' G G' := fun q t e a b => h q t e a (fun τ hτ hP => b τ hτ (hp τ hP))
theorem gK_w {P : Nat × Nat → Prop} {G : yH} {a : Nat} {τ : Nat × Nat} {e : yE} (v : yT × yE) (ha : G a = some (some τ, e)) (hP : P τ) : gK P G (gset G a v) := by
  intro q t e' h1 h2
  refine gs_n ?_ h1
  intro hq
  subst hq
  rw [ha] at h1
  cases h1
  exact h2 τ rfl hP
theorem gK_n {P : Nat × Nat → Prop} {G : yH} {a : Nat} (v : yT × yE) (ha : G a = none) : gK P G (gset G a v) := gK_e (gExt_n ha)
/-- an owned cell outside P stays -/
theorem gK.at {P : Nat × Nat → Prop} {G G' : yH} (h : gK P G G') {a : Nat} {τ : Nat × Nat} {e : yE} (ha : G a = some (some τ, e)) (hP : ¬ P τ) : G' a = some (some τ, e) := h a _ _ ha (fun τ' q => by cases q; exact hP)
/-- a cell that was there from the start stays -/
theorem gK.ro {P : Nat × Nat → Prop} {G G' : yH} (h : gK P G G') {a : Nat} {e : yE} (ha : G a = some (none, e)) : G' a = some (none, e) := h a _ _ ha (fun τ' q => by cases q)
/-- a fresh cell's later writes don't touch what was there -/
theorem gExt_w {G G' : yH} (h : gExt G G') {a : Nat} (v : yT × yE) (ha : G a = none) : gExt G (gset G' a v) := fun q w e => gs_n (g_nn e ha) (h q w e)
theorem lkill_ref (a : Nat) : lkill (some (.ref a)) = some (.ref a) := rfl
theorem lkill_int (x : Int32) : lkill (some (.int x)) = some (.int x) := rfl
theorem lkill_no : lkill none = none := rfl
theorem lkill_null : lkill (some .null) = some .null := rfl
theorem va_cat_rf (r : Option Nat) : (va_rf r).category = 1 := by cases r <;> rfl
theorem nar_z {x : Int} (h : x = 0 ∨ x = 1) : narrow .boolean (.int (iI x)) = .int (iI x) := by
  rcases h with rfl | rfl <;> decide
theorem fit_z {x : Int} (h : x = 0 ∨ x = 1) : fits .boolean (.int (iI x)) = true := by
  rcases h with rfl | rfl <;> decide
theorem b2i_01 (b : Bool) : b2i b = 0 ∨ b2i b = 1 := by cases b <;> decide
theorem nar_b (b : Bool) : narrow .boolean (.int (iI (b2i b))) = .int (iI (b2i b)) := nar_z (b2i_01 b)
theorem fit_b (b : Bool) : fits .boolean (.int (iI (b2i b))) = true := fit_z (b2i_01 b)
theorem nar_c {x : Int} (h : 0 ≤ x ∧ x < 65536) : narrow .char (.int (iI x)) = .int (iI x) := by
  have e : iI x = nI x.toNat := by rw [iI_nI]; congr 1; omega
  rw [e]
  exact (pk_charN (by omega)).1
theorem fit_c {x : Int} (h : 0 ≤ x ∧ x < 65536) : fits .char (.int (iI x)) = true := by
  have e : iI x = nI x.toNat := by rw [iI_nI]; congr 1; omega
  rw [e]
  exact (pk_charN (by omega)).2
/-! more rows -/
theorem y_iaddG (E : YE Γ Z own cc ret hh L mc ms nm) {x y : Int32} (hd : decode cc pc = .ok (.iadd, 1)) (K : Y Γ Z k n Q G (pc + 1) lv (.int (x + y) :: st)) : Y Γ Z k n Q G pc lv (.int y :: .int x :: st) := fun H locs ls h1 h2 h3 => lv_iadd E.x E.c hd (K H locs ls h1 h2 h3)
theorem y_icmp_same_eq (E : YE Γ Z own cc ret hh L mc ms nm) {off : Int} {tgt : Nat} {x : Int32} (hd : decode cc pc = .ok (.if_icmp .eq off, 3)) (ht : (pc : Int) + off = (tgt : Int)) (K : Y Γ Z k n Q G tgt lv st) : Y Γ Z k n Q G pc lv (.int x :: .int x :: st) := fun H locs ls h1 h2 h3 => lv_icmp_eq E.x E.c hd ht (fun _ => K H locs ls h1 h2 h3) (fun q => absurd rfl q)
theorem y_icmp_same_ne (E : YE Γ Z own cc ret hh L mc ms nm) {off : Int} {tgt : Nat} {x : Int32} (hd : decode cc pc = .ok (.if_icmp .ne off, 3)) (ht : (pc : Int) + off = (tgt : Int)) (K : Y Γ Z k n Q G (pc + 3) lv st) : Y Γ Z k n Q G pc lv (.int x :: .int x :: st) := fun H locs ls h1 h2 h3 => lv_icmp_ne E.x E.c hd ht (fun q => absurd rfl q) (fun _ => K H locs ls h1 h2 h3)
/-- the heap by another name -/
theorem y_heap {G' : yH} (h : G = G') (K : Y Γ Z k n Q G' pc lv st) : Y Γ Z k n Q G pc lv st := by rw [h]; exact K
/-- what the run needs of the heap's old part: the empty element array, the sides, the text of the commands -/
def gB (Γ : yG) (G : yH) : Prop := G (yad Γ 3) = some (none, aR 5 0 (fun _ => none)) ∧ G (yad Γ 0) = some (none, .inr (18, [])) ∧ G (yad Γ 1) = some (none, .inr (19, [])) ∧ G (yad Γ 2) = some (none, .inr (20, [])) ∧ (∃ (v : Nat) (x y : Value), G (yad Γ 4) = some (none, .inr (16, [.ref v, .int (iI 0), x, y])) ∧ G v = some (none, aI 2 8 (fun j => if j = 0 then 76 else if j = 1 then 68 else if j = 2 then 66 else if j = 3 then 77 else if j = 4 then 83 else if j = 5 then 70 else if j = 6 then 80 else 78))) ∧ (yad Γ 0 ≠ yad Γ 1 ∧ yad Γ 0 ≠ yad Γ 2 ∧ yad Γ 1 ≠ yad Γ 2)
theorem gB.kk {P : Nat × Nat → Prop} {G G' : yH} (h : gB Γ G) (hk : gK P G G') : gB Γ G' := by
  obtain ⟨h1, h2, h3, h4, ⟨v, x, y, h5, h6⟩, h7⟩ := h
  exact ⟨hk.ro h1, hk.ro h2, hk.ro h3, hk.ro h4, ⟨v, x, y, hk.ro h5, hk.ro h6⟩, h7⟩
theorem gB.e {G G' : yH} (h : gB Γ G) (hk : gExt G G') : gB Γ G' := h.kk (P := fun _ => False) (gK_e hk)
end YLib
