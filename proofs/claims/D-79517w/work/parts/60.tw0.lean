/-! ===== specifications: truth values, sums, iterations, first places; rows of numbers; the twin's heap ===== -/
section Sp
noncomputable def dB (P : Prop) : Bool := @decide P (Classical.propDecidable P)
theorem dB_t {P : Prop} (h : P) : dB P = true := @decide_eq_true P (Classical.propDecidable P) h
theorem dB_f {P : Prop} (h : ¬ P) : dB P = false := @decide_eq_false P (Classical.propDecidable P) h
theorem dB_iff {P : Prop} : dB P = true ↔ P := by
  by_cases h : P
  · exact ⟨fun _ => h, fun _ => dB_t h⟩
  · exact ⟨fun q => (by rw [dB_f h] at q; cases q), fun q => absurd q h⟩
theorem dB_nf {P : Prop} : dB P = false ↔ ¬ P := by
  by_cases h : P
  · exact ⟨fun q => (by rw [dB_t h] at q; cases q), fun q => absurd h q⟩
  · exact ⟨fun _ => h, fun _ => dB_f h⟩
theorem dB_c {P Q : Prop} (h : P ↔ Q) : dB P = dB Q := by rw [show P = Q from propext h]
theorem dB_d {P : Prop} [d : Decidable P] : dB P = decide P := by
  by_cases h : P
  · rw [dB_t h, decide_eq_true h]
  · rw [dB_f h, decide_eq_false h]
theorem dB_b (b : Bool) : dB (b = true) = b := by cases b <;> simp [dB_t, dB_f]
theorem rT {P : Prop} (h : P) : some (Value.int (iI 1)) = some (.int (iI (b2i (dB P)))) := by rw [dB_t h]; rfl
theorem rF {P : Prop} (h : ¬ P) : some (Value.int (iI 0)) = some (.int (iI (b2i (dB P)))) := by rw [dB_f h]; rfl
theorem rI {a b : Int} (h : a = b) : some (Value.int (iI a)) = some (.int (iI b)) := by rw [h]
theorem rB {P Q : Prop} (h : P ↔ Q) : some (Value.int (iI (b2i (dB P)))) = some (.int (iI (b2i (dB Q)))) := by rw [dB_c h]
theorem tI {a b : Int} (h : a = b) : Value.int (iI a) = .int (iI b) := by rw [h]
theorem tT {P : Prop} (h : P) : Value.int (iI 1) = .int (iI (b2i (dB P))) := by rw [dB_t h]; rfl
theorem tF {P : Prop} (h : ¬ P) : Value.int (iI 0) = .int (iI (b2i (dB P))) := by rw [dB_f h]; rfl
theorem b2i_dt {P : Prop} (h : P) : b2i (dB P) = 1 := by rw [dB_t h]; rfl
theorem b2i_df {P : Prop} (h : ¬ P) : b2i (dB P) = 0 := by rw [dB_f h]; rfl
theorem ge_iff_not_lt (a b : Int) : a ≥ b ↔ ¬ a < b := by omega
def sumI0 (f : Int → Int) : Nat → Int
  | 0 => 0
  | n + 1 => sumI0 f n + f n
noncomputable def sumI (f : Int → Int) (i : Int) : Int := opq 11 (fun (f : Int → Int) (i : Int) => sumI0 f i.toNat) f i
theorem sumI_e (f : Int → Int) (i : Int) : sumI f i = sumI0 f i.toNat := by unfold sumI; rw [opq_eq]
theorem sumI_0 (f : Int → Int) : sumI f 0 = 0 := by rw [sumI_e]; rfl
theorem sumI_s {f : Int → Int} {i : Int} (h : 0 ≤ i) : sumI f (i + 1) = sumI f i + f i := by
  rw [sumI_e, sumI_e, show (i + 1).toNat = i.toNat + 1 by omega]
  show sumI0 f i.toNat + f (i.toNat : Int) = _
  rw [show ((i.toNat : Nat) : Int) = i by omega]
/-- induction upward -/
theorem intUp {P : Int → Prop} (h0 : P 0) (hs : ∀ i, 0 ≤ i → P i → P (i + 1)) : ∀ i, 0 ≤ i → P i := by
  intro i hi
  have : ∀ n : Nat, P (n : Int) := by
    intro n
    induction n with
    | zero => exact h0
    | succ n ih => exact hs n (by omega) ih
  have := this i.toNat
  rwa [show ((i.toNat : Nat) : Int) = i by omega] at this
theorem sumI_c {f g : Int → Int} {n : Int} (h : ∀ k, 0 ≤ k → k < n → f k = g k) (hn : 0 ≤ n) : sumI f n = sumI g n := by
  have : ∀ i, 0 ≤ i → (i ≤ n → sumI f i = sumI g i) := by
    apply intUp
    · intro _; rw [sumI_0, sumI_0]
    · intro i hi ih hn
      rw [sumI_s hi, sumI_s hi, ih (by omega), h i hi (by omega)]
  exact this n hn (by omega)
theorem sumI_b {f : Int → Int} {n m : Int} (h : ∀ k, 0 ≤ k → k < n → 0 ≤ f k ∧ f k ≤ m) (hn : 0 ≤ n) : 0 ≤ sumI f n ∧ sumI f n ≤ m * n := by
  have : ∀ i, 0 ≤ i → (i ≤ n → 0 ≤ sumI f i ∧ sumI f i ≤ m * i) := by
    apply intUp
    · intro _; rw [sumI_0]; omega
    · intro i hi ih hn
      have h1 := ih (by omega)
      have h2 := h i hi (by omega)
      rw [sumI_s hi, Int.mul_add]
      omega
  exact this n hn (by omega)
def itI0 {σ : Type} (f : Int → σ → σ) (s : σ) : Nat → σ
  | 0 => s
  | n + 1 => f n (itI0 f s n)
noncomputable def itI {σ : Type} (f : Int → σ → σ) (i : Int) (s : σ) : σ := opq 12 (fun (f : Int → σ → σ) (i : Int) (s : σ) => itI0 f s i.toNat) f i s
theorem itI_e {σ : Type} (f : Int → σ → σ) (i : Int) (s : σ) : itI f i s = itI0 f s i.toNat := by unfold itI; rw [opq_eq]
theorem itI_0 {σ : Type} (f : Int → σ → σ) (s : σ) : itI f 0 s = s := by rw [itI_e]; rfl
theorem itI_s {σ : Type} {f : Int → σ → σ} {s : σ} {i : Int} (h : 0 ≤ i) : itI f (i + 1) s = f i (itI f i s) := by
  rw [itI_e, itI_e, show (i + 1).toNat = i.toNat + 1 by omega]
  show f (i.toNat : Int) (itI0 f s i.toNat) = _
  rw [show ((i.toNat : Nat) : Int) = i by omega]
noncomputable def fst0 (P : Int → Prop) : Nat → Int
  | 0 => -1
  | n + 1 => if fst0 P n ≠ -1 then fst0 P n else if dB (P n) = true then n else -1
noncomputable def fstI (P : Int → Prop) (n : Int) : Int := opq 13 (fun (P : Int → Prop) (i : Int) => fst0 P i.toNat) P n
theorem fstI_e (P : Int → Prop) (n : Int) : fstI P n = fst0 P n.toNat := by unfold fstI; rw [opq_eq]
theorem fst0_or (P : Int → Prop) : ∀ n : Nat, (fst0 P n = -1 ∧ ∀ j : Int, 0 ≤ j → j < n → ¬ P j) ∨ (0 ≤ fst0 P n ∧ fst0 P n < n ∧ P (fst0 P n) ∧ ∀ j : Int, 0 ≤ j → j < fst0 P n → ¬ P j)
  | 0 => Or.inl ⟨rfl, fun j h1 h2 => by omega⟩
  | n + 1 => by
    rcases fst0_or P n with ⟨h1, h2⟩ | ⟨h1, h2, h3, h4⟩
    · simp only [fst0]
      rw [h1, if_neg (by decide)]
      by_cases hp : P n
      · rw [if_pos (dB_t hp)]
        exact Or.inr ⟨by omega, by omega, hp, h2⟩
      · rw [if_neg (by rw [dB_f hp]; decide)]
        refine Or.inl ⟨rfl, fun j h3 h4 => ?_⟩
        by_cases e : j = n
        · subst e
          exact hp
        · exact h2 j h3 (by omega)
    · simp only [fst0]
      rw [if_pos (by omega)]
      exact Or.inr ⟨h1, by omega, h3, h4⟩
theorem fst_or (P : Int → Prop) {n : Int} (hn : 0 ≤ n) : (fstI P n = -1 ∧ ∀ j : Int, 0 ≤ j → j < n → ¬ P j) ∨ (0 ≤ fstI P n ∧ fstI P n < n ∧ P (fstI P n) ∧ ∀ j : Int, 0 ≤ j → j < fstI P n → ¬ P j) := by
  have := fst0_or P n.toNat
  rw [show ((n.toNat : Nat) : Int) = n by omega] at this
  rw [fstI_e]
  exact this
theorem fst_hit {P : Int → Prop} {n k : Int} (h0 : 0 ≤ k) (hk : k < n) (hp : P k) (hl : ∀ j, 0 ≤ j → j < k → ¬ P j) : fstI P n = k := by
  rcases fst_or P (n := n) (by omega) with ⟨h1, h2⟩ | ⟨h1, h2, h3, h4⟩
  · exact absurd hp (h2 k h0 hk)
  · by_cases a : fstI P n < k
    · exact absurd h3 (hl _ h1 a)
    · by_cases b : k < fstI P n
      · exact absurd hp (h4 k h0 b)
      · omega
theorem fst_miss {P : Int → Prop} {n : Int} (hn : 0 ≤ n) (hl : ∀ j, 0 ≤ j → j < n → ¬ P j) : fstI P n = -1 := by
  rcases fst_or P (n := n) hn with ⟨h1, h2⟩ | ⟨h1, h2, h3, h4⟩
  · exact h1
  · exact absurd h3 (hl _ h1 h2)
theorem fst_c {P R : Int → Prop} {n : Int} (hn : 0 ≤ n) (h : ∀ k, 0 ≤ k → k < n → (P k ↔ R k)) : fstI P n = fstI R n := by
  rcases fst_or P (n := n) hn with ⟨h1, h2⟩ | ⟨h1, h2, h3, h4⟩
  · rw [h1, fst_miss hn (fun j a b c => h2 j a b ((h j a b).mpr c))]
  · rw [fst_hit h1 h2 ((h _ h1 h2).mp h3) (fun j a b c => h4 j a b ((h j a (by omega)).mpr c))]
/-- one step more of what is not so below i -/
theorem low_s {P : Int → Prop} {i : Int} (h : ∀ j, 0 ≤ j → j < i → ¬ P j) (hi : ¬ P i) : ∀ j, 0 ≤ j → j < i + 1 → ¬ P j := fun j h1 h2 => by
  by_cases e : j = i
  · subst e
    exact hi
  · exact h j h1 (by omega)
/-! rows of 128 -/
def tw (w : Int → Int) (t j : Int) : Int := w (25 + 8 * t + j)
def lw (w : Int → Int) (l j : Int) : Int := w (89 + 3 * l + j)
/-- the shape of a row: every place in its bounds -/
def SH (w : Int → Int) : Prop :=
  (0 ≤ w 10 ∧ w 10 ≤ 8) ∧ (0 ≤ w 11 ∧ w 11 ≤ 12) ∧ (0 ≤ w 12 ∧ w 12 ≤ 12) ∧
  (∀ k, 0 ≤ k → k < 7 → 0 ≤ w (3 + k) ∧ w (3 + k) ≤ 9) ∧
  (∀ k, 0 ≤ k → k < 12 → 0 ≤ w (13 + k) ∧ w (13 + k) ≤ 11) ∧
  (∀ t, 0 ≤ t → t < 8 → (0 ≤ tw w t 0 ∧ tw w t 0 ≤ 60) ∧ (0 ≤ tw w t 1 ∧ tw w t 1 ≤ 2) ∧ (0 ≤ tw w t 2 ∧ tw w t 2 ≤ 9) ∧ (-1 ≤ tw w t 3 ∧ tw w t 3 ≤ 11) ∧ (0 ≤ tw w t 4 ∧ tw w t 4 ≤ 1) ∧ (0 ≤ tw w t 5 ∧ tw w t 5 ≤ 1) ∧ (0 ≤ tw w t 6 ∧ tw w t 6 ≤ 255) ∧ (0 ≤ tw w t 7 ∧ tw w t 7 ≤ 8)) ∧
  (∀ l, 0 ≤ l → l < 12 → (0 ≤ lw w l 0 ∧ lw w l 0 ≤ 60) ∧ (0 ≤ lw w l 1 ∧ lw w l 1 ≤ 60) ∧ (-2 ≤ lw w l 2 ∧ lw w l 2 ≤ 7))
theorem SH.nt {w : Int → Int} (h : SH w) : 0 ≤ w 10 ∧ w 10 ≤ 8 := h.1
theorem SH.nl {w : Int → Int} (h : SH w) : 0 ≤ w 11 ∧ w 11 ≤ 12 := h.2.1
theorem SH.ns {w : Int → Int} (h : SH w) : 0 ≤ w 12 ∧ w 12 ≤ 12 := h.2.2.1
theorem SH.fog {w : Int → Int} (h : SH w) {k : Int} (h0 : 0 ≤ k) (h1 : k < 7) : 0 ≤ w (3 + k) ∧ w (3 + k) ≤ 9 := h.2.2.2.1 k h0 h1
theorem SH.sto {w : Int → Int} (h : SH w) {k : Int} (h0 : 0 ≤ k) (h1 : k < 12) : 0 ≤ w (13 + k) ∧ w (13 + k) ≤ 11 := h.2.2.2.2.1 k h0 h1
theorem SH.t {w : Int → Int} (h : SH w) {t : Int} (h0 : 0 ≤ t) (h1 : t < 8) : (0 ≤ tw w t 0 ∧ tw w t 0 ≤ 60) ∧ (0 ≤ tw w t 1 ∧ tw w t 1 ≤ 2) ∧ (0 ≤ tw w t 2 ∧ tw w t 2 ≤ 9) ∧ (-1 ≤ tw w t 3 ∧ tw w t 3 ≤ 11) ∧ (0 ≤ tw w t 4 ∧ tw w t 4 ≤ 1) ∧ (0 ≤ tw w t 5 ∧ tw w t 5 ≤ 1) ∧ (0 ≤ tw w t 6 ∧ tw w t 6 ≤ 255) ∧ (0 ≤ tw w t 7 ∧ tw w t 7 ≤ 8) := h.2.2.2.2.2.1 t h0 h1
theorem SH.l {w : Int → Int} (h : SH w) {l : Int} (h0 : 0 ≤ l) (h1 : l < 12) : (0 ≤ lw w l 0 ∧ lw w l 0 ≤ 60) ∧ (0 ≤ lw w l 1 ∧ lw w l 1 ≤ 60) ∧ (-2 ≤ lw w l 2 ∧ lw w l 2 ≤ 7) := h.2.2.2.2.2.2 l h0 h1
end Sp
section YIfd
variable {Γ : yG} {Z : yZ} {own : String} {cc : ByteArray} {ret : Option FieldType} {hh : List (Nat × Nat × Nat × Nat)} {L mc ms : Nat} {nm : String} {k n : Nat} {Q : State → Prop} {G : yH} {pc : Nat} {lv : List (Option Value)} {st : List Value}
theorem y_ifd_eq (E : YE Γ Z own cc ret hh L mc ms nm) {off : Int} {tgt : Nat} {P : Prop} (hd : decode cc pc = .ok (.ifCond .eq off, 3)) (ht : (pc : Int) + off = (tgt : Int)) (KT : ¬ P → Y Γ Z k n Q G tgt lv st) (KF : P → Y Γ Z k n Q G (pc + 3) lv st) : Y Γ Z k n Q G pc lv (.int (iI (b2i (dB P))) :: st) := y_ifb_eq E hd ht (fun h => KT (dB_nf.mp h)) (fun h => KF (dB_iff.mp h))
theorem y_ifd_ne (E : YE Γ Z own cc ret hh L mc ms nm) {off : Int} {tgt : Nat} {P : Prop} (hd : decode cc pc = .ok (.ifCond .ne off, 3)) (ht : (pc : Int) + off = (tgt : Int)) (KT : P → Y Γ Z k n Q G tgt lv st) (KF : ¬ P → Y Γ Z k n Q G (pc + 3) lv st) : Y Γ Z k n Q G pc lv (.int (iI (b2i (dB P))) :: st) := y_ifb_ne E hd ht (fun h => KT (dB_iff.mp h)) (fun h => KF (dB_nf.mp h))
end YIfd
section Mh
/-- the rows of the twin that are arrays -/
def mL : List Nat := [0, 4, 5, 6, 7, 8, 12, 13, 15, 16, 19, 20, 21]
abbrev mFs (A : Nat → Nat) (T : Nat → Int → Int) : List Value := [.int (iI (T 0 0)), .int (iI (T 1 0)), .int (iI (T 2 0)), .int (iI (T 3 0)), .ref (A 4), .ref (A 5), .ref (A 6), .ref (A 7), .ref (A 8), .int (iI (T 9 0)), .int (iI (T 10 0)), .int (iI (T 11 0)), .ref (A 12), .ref (A 13), .int (iI (T 14 0)), .ref (A 15), .ref (A 16), .int (iI (T 17 0)), .int (iI (T 18 0)), .ref (A 19), .ref (A 20), .ref (A 21), .int (iI (T 22 0)), .int (iI (T 23 0)), .int (iI (T 24 0))]
def mE (A : Nat → Nat) (T : Nat → Int → Int) (k : Nat) : yE := match k with
  | 0 => .inr (5, mFs A T)
  | 4 => aI 0 4 (T 4)
  | 5 => aI 0 128 (T 5)
  | 6 => aI 0 1024 (T 6)
  | 7 => aI 0 128 (T 7)
  | 8 => aI 0 128 (T 8)
  | 12 => aI 0 8 (T 12)
  | 13 => aI 0 8 (T 13)
  | 15 => aI 3 60 (T 15)
  | 16 => aI 3 24 (T 16)
  | 19 => aI 0 32 (T 19)
  | 20 => aI 0 32 (T 20)
  | _ => aI 0 32 (T 21)
def mA (A : Nat → Nat) : Prop := ∀ i ∈ mL, ∀ j ∈ mL, A i = A j → i = j
def mH (A : Nat → Nat) (T : Nat → Int → Int) (G : yH) : yH := fun q => match mL.find? (fun k => A k == q) with
  | some k => some (some (1, 0), mE A T k)
  | none => G q
theorem mH_at {A : Nat → Nat} (hA : mA A) (T : Nat → Int → Int) (G : yH) {k : Nat} (hk : k ∈ mL) : mH A T G (A k) = some (some (1, 0), mE A T k) := by
  unfold mH
  cases h : mL.find? (fun j => A j == A k) with
  | none => exact absurd (List.find?_eq_none.mp h k hk) (by simp)
  | some j =>
    have h1 := List.find?_some h
    have h2 := List.mem_of_find?_eq_some h
    have : j = k := hA j h2 k hk (by simpa using h1)
    subst this
    rfl
theorem mH_off {A : Nat → Nat} (T : Nat → Int → Int) (G : yH) {q : Nat} (hq : ∀ k ∈ mL, A k ≠ q) : mH A T G q = G q := by
  unfold mH
  rw [List.find?_eq_none.mpr (fun k hk => by simpa using hq k hk)]
theorem mH_set {A : Nat → Nat} (hA : mA A) {T T' : Nat → Int → Int} (G : yH) {k : Nat} (hk : k ∈ mL) {e : yE} (he : mE A T' k = e) (ho : ∀ j ∈ mL, j ≠ k → mE A T' j = mE A T j) : gset (mH A T G) (A k) (some (1, 0), e) = mH A T' G := by
  funext q
  by_cases h : ∃ j ∈ mL, A j = q
  · obtain ⟨j, hj, rfl⟩ := h
    rw [mH_at hA T' G hj]
    by_cases e2 : j = k
    · subst e2
      rw [gset_s, he]
    · rw [gset_n _ (fun z => e2 (hA j hj k hk z)), mH_at hA T G hj, ho j hj e2]
  · have h' : ∀ j ∈ mL, A j ≠ q := fun j hj z => h ⟨j, hj, z⟩
    rw [mH_off T' G h', gset_n _ (fun z => h' k hk z.symm), mH_off T G h']
theorem mH_mH {A : Nat → Nat} (T T' : Nat → Int → Int) (G : yH) : mH A T' (mH A T G) = mH A T' G := by
  funext q
  unfold mH
  cases h : mL.find? (fun k => A k == q) <;> rfl
/-- a heap that has the twin's cells -/
def isM (A : Nat → Nat) (T : Nat → Int → Int) (G : yH) : Prop := ∀ k ∈ mL, G (A k) = some (some (1, 0), mE A T k)
theorem mH_is {A : Nat → Nat} (hA : mA A) (T : Nat → Int → Int) (G : yH) : isM A T (mH A T G) := fun _ hk => mH_at hA T G hk
theorem isM_mH {A : Nat → Nat} {T : Nat → Int → Int} {G : yH} (h : isM A T G) : mH A T G = G := by
  funext q
  unfold mH
  cases e : mL.find? (fun k => A k == q) with
  | none => rfl
  | some k =>
    have h1 : A k = q := by simpa using List.find?_some e
    subst h1
    exact (h k (List.mem_of_find?_eq_some e)).symm
theorem m_o {A : Nat → Nat} (hA : mA A) (T : Nat → Int → Int) (G : yH) : mH A T G (A 0) = some (some (1, 0), .inr (5, mFs A T)) := mH_at hA T G (by decide)
theorem m_r4 {A : Nat → Nat} (hA : mA A) (T : Nat → Int → Int) (G : yH) : mH A T G (A 4) = some (some (1, 0), aI 0 4 (T 4)) := mH_at hA T G (by decide)
theorem m_r5 {A : Nat → Nat} (hA : mA A) (T : Nat → Int → Int) (G : yH) : mH A T G (A 5) = some (some (1, 0), aI 0 128 (T 5)) := mH_at hA T G (by decide)
theorem m_r6 {A : Nat → Nat} (hA : mA A) (T : Nat → Int → Int) (G : yH) : mH A T G (A 6) = some (some (1, 0), aI 0 1024 (T 6)) := mH_at hA T G (by decide)
theorem m_r7 {A : Nat → Nat} (hA : mA A) (T : Nat → Int → Int) (G : yH) : mH A T G (A 7) = some (some (1, 0), aI 0 128 (T 7)) := mH_at hA T G (by decide)
theorem m_r8 {A : Nat → Nat} (hA : mA A) (T : Nat → Int → Int) (G : yH) : mH A T G (A 8) = some (some (1, 0), aI 0 128 (T 8)) := mH_at hA T G (by decide)
theorem m_r12 {A : Nat → Nat} (hA : mA A) (T : Nat → Int → Int) (G : yH) : mH A T G (A 12) = some (some (1, 0), aI 0 8 (T 12)) := mH_at hA T G (by decide)
theorem m_r13 {A : Nat → Nat} (hA : mA A) (T : Nat → Int → Int) (G : yH) : mH A T G (A 13) = some (some (1, 0), aI 0 8 (T 13)) := mH_at hA T G (by decide)
theorem m_r15 {A : Nat → Nat} (hA : mA A) (T : Nat → Int → Int) (G : yH) : mH A T G (A 15) = some (some (1, 0), aI 3 60 (T 15)) := mH_at hA T G (by decide)
theorem m_r16 {A : Nat → Nat} (hA : mA A) (T : Nat → Int → Int) (G : yH) : mH A T G (A 16) = some (some (1, 0), aI 3 24 (T 16)) := mH_at hA T G (by decide)
theorem m_r19 {A : Nat → Nat} (hA : mA A) (T : Nat → Int → Int) (G : yH) : mH A T G (A 19) = some (some (1, 0), aI 0 32 (T 19)) := mH_at hA T G (by decide)
theorem m_r20 {A : Nat → Nat} (hA : mA A) (T : Nat → Int → Int) (G : yH) : mH A T G (A 20) = some (some (1, 0), aI 0 32 (T 20)) := mH_at hA T G (by decide)
theorem m_r21 {A : Nat → Nat} (hA : mA A) (T : Nat → Int → Int) (G : yH) : mH A T G (A 21) = some (some (1, 0), aI 0 32 (T 21)) := mH_at hA T G (by decide)
theorem m_p0 {A : Nat → Nat} (hA : mA A) {T : Nat → Int → Int} {G : yH} {v : Int} : gset (mH A T G) (A 0) (some (1, 0), .inr (5, (mFs A T).set 0 (.int (iI v)))) = mH A (upN T 0 (fun _ => v)) G := mH_set hA G (by decide) rfl (by
  intro j hj h
  simp only [mL, List.mem_cons, List.not_mem_nil, or_false] at hj
  rcases hj with rfl | rfl | rfl | rfl | rfl | rfl | rfl | rfl | rfl | rfl | rfl | rfl | rfl <;> first | rfl | exact absurd rfl h)
theorem m_p1 {A : Nat → Nat} (hA : mA A) {T : Nat → Int → Int} {G : yH} {v : Int} : gset (mH A T G) (A 0) (some (1, 0), .inr (5, (mFs A T).set 1 (.int (iI v)))) = mH A (upN T 1 (fun _ => v)) G := mH_set hA G (by decide) rfl (by
  intro j hj h
  simp only [mL, List.mem_cons, List.not_mem_nil, or_false] at hj
  rcases hj with rfl | rfl | rfl | rfl | rfl | rfl | rfl | rfl | rfl | rfl | rfl | rfl | rfl <;> first | rfl | exact absurd rfl h)
theorem m_p2 {A : Nat → Nat} (hA : mA A) {T : Nat → Int → Int} {G : yH} {v : Int} : gset (mH A T G) (A 0) (some (1, 0), .inr (5, (mFs A T).set 2 (.int (iI v)))) = mH A (upN T 2 (fun _ => v)) G := mH_set hA G (by decide) rfl (by
  intro j hj h
  simp only [mL, List.mem_cons, List.not_mem_nil, or_false] at hj
  rcases hj with rfl | rfl | rfl | rfl | rfl | rfl | rfl | rfl | rfl | rfl | rfl | rfl | rfl <;> first | rfl | exact absurd rfl h)
theorem m_p3 {A : Nat → Nat} (hA : mA A) {T : Nat → Int → Int} {G : yH} {v : Int} : gset (mH A T G) (A 0) (some (1, 0), .inr (5, (mFs A T).set 3 (.int (iI v)))) = mH A (upN T 3 (fun _ => v)) G := mH_set hA G (by decide) rfl (by
  intro j hj h
  simp only [mL, List.mem_cons, List.not_mem_nil, or_false] at hj
  rcases hj with rfl | rfl | rfl | rfl | rfl | rfl | rfl | rfl | rfl | rfl | rfl | rfl | rfl <;> first | rfl | exact absurd rfl h)
theorem m_p9 {A : Nat → Nat} (hA : mA A) {T : Nat → Int → Int} {G : yH} {v : Int} : gset (mH A T G) (A 0) (some (1, 0), .inr (5, (mFs A T).set 9 (.int (iI v)))) = mH A (upN T 9 (fun _ => v)) G := mH_set hA G (by decide) rfl (by
  intro j hj h
  simp only [mL, List.mem_cons, List.not_mem_nil, or_false] at hj
  rcases hj with rfl | rfl | rfl | rfl | rfl | rfl | rfl | rfl | rfl | rfl | rfl | rfl | rfl <;> first | rfl | exact absurd rfl h)
theorem m_p10 {A : Nat → Nat} (hA : mA A) {T : Nat → Int → Int} {G : yH} {v : Int} : gset (mH A T G) (A 0) (some (1, 0), .inr (5, (mFs A T).set 10 (.int (iI v)))) = mH A (upN T 10 (fun _ => v)) G := mH_set hA G (by decide) rfl (by
  intro j hj h
  simp only [mL, List.mem_cons, List.not_mem_nil, or_false] at hj
  rcases hj with rfl | rfl | rfl | rfl | rfl | rfl | rfl | rfl | rfl | rfl | rfl | rfl | rfl <;> first | rfl | exact absurd rfl h)
theorem m_p11 {A : Nat → Nat} (hA : mA A) {T : Nat → Int → Int} {G : yH} {v : Int} : gset (mH A T G) (A 0) (some (1, 0), .inr (5, (mFs A T).set 11 (.int (iI v)))) = mH A (upN T 11 (fun _ => v)) G := mH_set hA G (by decide) rfl (by
  intro j hj h
  simp only [mL, List.mem_cons, List.not_mem_nil, or_false] at hj
  rcases hj with rfl | rfl | rfl | rfl | rfl | rfl | rfl | rfl | rfl | rfl | rfl | rfl | rfl <;> first | rfl | exact absurd rfl h)
theorem m_p14 {A : Nat → Nat} (hA : mA A) {T : Nat → Int → Int} {G : yH} {v : Int} : gset (mH A T G) (A 0) (some (1, 0), .inr (5, (mFs A T).set 14 (.int (iI v)))) = mH A (upN T 14 (fun _ => v)) G := mH_set hA G (by decide) rfl (by
  intro j hj h
  simp only [mL, List.mem_cons, List.not_mem_nil, or_false] at hj
  rcases hj with rfl | rfl | rfl | rfl | rfl | rfl | rfl | rfl | rfl | rfl | rfl | rfl | rfl <;> first | rfl | exact absurd rfl h)
theorem m_p17 {A : Nat → Nat} (hA : mA A) {T : Nat → Int → Int} {G : yH} {v : Int} : gset (mH A T G) (A 0) (some (1, 0), .inr (5, (mFs A T).set 17 (.int (iI v)))) = mH A (upN T 17 (fun _ => v)) G := mH_set hA G (by decide) rfl (by
  intro j hj h
  simp only [mL, List.mem_cons, List.not_mem_nil, or_false] at hj
  rcases hj with rfl | rfl | rfl | rfl | rfl | rfl | rfl | rfl | rfl | rfl | rfl | rfl | rfl <;> first | rfl | exact absurd rfl h)
theorem m_p18 {A : Nat → Nat} (hA : mA A) {T : Nat → Int → Int} {G : yH} {v : Int} : gset (mH A T G) (A 0) (some (1, 0), .inr (5, (mFs A T).set 18 (.int (iI v)))) = mH A (upN T 18 (fun _ => v)) G := mH_set hA G (by decide) rfl (by
  intro j hj h
  simp only [mL, List.mem_cons, List.not_mem_nil, or_false] at hj
  rcases hj with rfl | rfl | rfl | rfl | rfl | rfl | rfl | rfl | rfl | rfl | rfl | rfl | rfl <;> first | rfl | exact absurd rfl h)
theorem m_p22 {A : Nat → Nat} (hA : mA A) {T : Nat → Int → Int} {G : yH} {v : Int} : gset (mH A T G) (A 0) (some (1, 0), .inr (5, (mFs A T).set 22 (.int (iI v)))) = mH A (upN T 22 (fun _ => v)) G := mH_set hA G (by decide) rfl (by
  intro j hj h
  simp only [mL, List.mem_cons, List.not_mem_nil, or_false] at hj
  rcases hj with rfl | rfl | rfl | rfl | rfl | rfl | rfl | rfl | rfl | rfl | rfl | rfl | rfl <;> first | rfl | exact absurd rfl h)
theorem m_p23 {A : Nat → Nat} (hA : mA A) {T : Nat → Int → Int} {G : yH} {v : Int} : gset (mH A T G) (A 0) (some (1, 0), .inr (5, (mFs A T).set 23 (.int (iI v)))) = mH A (upN T 23 (fun _ => v)) G := mH_set hA G (by decide) rfl (by
  intro j hj h
  simp only [mL, List.mem_cons, List.not_mem_nil, or_false] at hj
  rcases hj with rfl | rfl | rfl | rfl | rfl | rfl | rfl | rfl | rfl | rfl | rfl | rfl | rfl <;> first | rfl | exact absurd rfl h)
theorem m_p24 {A : Nat → Nat} (hA : mA A) {T : Nat → Int → Int} {G : yH} {v : Int} : gset (mH A T G) (A 0) (some (1, 0), .inr (5, (mFs A T).set 24 (.int (iI v)))) = mH A (upN T 24 (fun _ => v)) G := mH_set hA G (by decide) rfl (by
  intro j hj h
  simp only [mL, List.mem_cons, List.not_mem_nil, or_false] at hj
  rcases hj with rfl | rfl | rfl | rfl | rfl | rfl | rfl | rfl | rfl | rfl | rfl | rfl | rfl <;> first | rfl | exact absurd rfl h)
theorem m_w4 {A : Nat → Nat} (hA : mA A) {T : Nat → Int → Int} {G : yH} {f : Int → Int} : gset (mH A T G) (A 4) (some (1, 0), aI 0 4 f) = mH A (upN T 4 f) G := mH_set hA G (by decide) rfl (by
  intro j hj h
  simp only [mL, List.mem_cons, List.not_mem_nil, or_false] at hj
  rcases hj with rfl | rfl | rfl | rfl | rfl | rfl | rfl | rfl | rfl | rfl | rfl | rfl | rfl <;> first | rfl | exact absurd rfl h)
theorem m_w5 {A : Nat → Nat} (hA : mA A) {T : Nat → Int → Int} {G : yH} {f : Int → Int} : gset (mH A T G) (A 5) (some (1, 0), aI 0 128 f) = mH A (upN T 5 f) G := mH_set hA G (by decide) rfl (by
  intro j hj h
  simp only [mL, List.mem_cons, List.not_mem_nil, or_false] at hj
  rcases hj with rfl | rfl | rfl | rfl | rfl | rfl | rfl | rfl | rfl | rfl | rfl | rfl | rfl <;> first | rfl | exact absurd rfl h)
theorem m_w6 {A : Nat → Nat} (hA : mA A) {T : Nat → Int → Int} {G : yH} {f : Int → Int} : gset (mH A T G) (A 6) (some (1, 0), aI 0 1024 f) = mH A (upN T 6 f) G := mH_set hA G (by decide) rfl (by
  intro j hj h
  simp only [mL, List.mem_cons, List.not_mem_nil, or_false] at hj
  rcases hj with rfl | rfl | rfl | rfl | rfl | rfl | rfl | rfl | rfl | rfl | rfl | rfl | rfl <;> first | rfl | exact absurd rfl h)
theorem m_w7 {A : Nat → Nat} (hA : mA A) {T : Nat → Int → Int} {G : yH} {f : Int → Int} : gset (mH A T G) (A 7) (some (1, 0), aI 0 128 f) = mH A (upN T 7 f) G := mH_set hA G (by decide) rfl (by
  intro j hj h
  simp only [mL, List.mem_cons, List.not_mem_nil, or_false] at hj
  rcases hj with rfl | rfl | rfl | rfl | rfl | rfl | rfl | rfl | rfl | rfl | rfl | rfl | rfl <;> first | rfl | exact absurd rfl h)
theorem m_w8 {A : Nat → Nat} (hA : mA A) {T : Nat → Int → Int} {G : yH} {f : Int → Int} : gset (mH A T G) (A 8) (some (1, 0), aI 0 128 f) = mH A (upN T 8 f) G := mH_set hA G (by decide) rfl (by
  intro j hj h
  simp only [mL, List.mem_cons, List.not_mem_nil, or_false] at hj
  rcases hj with rfl | rfl | rfl | rfl | rfl | rfl | rfl | rfl | rfl | rfl | rfl | rfl | rfl <;> first | rfl | exact absurd rfl h)
theorem m_w12 {A : Nat → Nat} (hA : mA A) {T : Nat → Int → Int} {G : yH} {f : Int → Int} : gset (mH A T G) (A 12) (some (1, 0), aI 0 8 f) = mH A (upN T 12 f) G := mH_set hA G (by decide) rfl (by
  intro j hj h
  simp only [mL, List.mem_cons, List.not_mem_nil, or_false] at hj
  rcases hj with rfl | rfl | rfl | rfl | rfl | rfl | rfl | rfl | rfl | rfl | rfl | rfl | rfl <;> first | rfl | exact absurd rfl h)
theorem m_w13 {A : Nat → Nat} (hA : mA A) {T : Nat → Int → Int} {G : yH} {f : Int → Int} : gset (mH A T G) (A 13) (some (1, 0), aI 0 8 f) = mH A (upN T 13 f) G := mH_set hA G (by decide) rfl (by
  intro j hj h
  simp only [mL, List.mem_cons, List.not_mem_nil, or_false] at hj
  rcases hj with rfl | rfl | rfl | rfl | rfl | rfl | rfl | rfl | rfl | rfl | rfl | rfl | rfl <;> first | rfl | exact absurd rfl h)
theorem m_w15 {A : Nat → Nat} (hA : mA A) {T : Nat → Int → Int} {G : yH} {f : Int → Int} : gset (mH A T G) (A 15) (some (1, 0), aI 3 60 f) = mH A (upN T 15 f) G := mH_set hA G (by decide) rfl (by
  intro j hj h
  simp only [mL, List.mem_cons, List.not_mem_nil, or_false] at hj
  rcases hj with rfl | rfl | rfl | rfl | rfl | rfl | rfl | rfl | rfl | rfl | rfl | rfl | rfl <;> first | rfl | exact absurd rfl h)
theorem m_w16 {A : Nat → Nat} (hA : mA A) {T : Nat → Int → Int} {G : yH} {f : Int → Int} : gset (mH A T G) (A 16) (some (1, 0), aI 3 24 f) = mH A (upN T 16 f) G := mH_set hA G (by decide) rfl (by
  intro j hj h
  simp only [mL, List.mem_cons, List.not_mem_nil, or_false] at hj
  rcases hj with rfl | rfl | rfl | rfl | rfl | rfl | rfl | rfl | rfl | rfl | rfl | rfl | rfl <;> first | rfl | exact absurd rfl h)
theorem m_w19 {A : Nat → Nat} (hA : mA A) {T : Nat → Int → Int} {G : yH} {f : Int → Int} : gset (mH A T G) (A 19) (some (1, 0), aI 0 32 f) = mH A (upN T 19 f) G := mH_set hA G (by decide) rfl (by
  intro j hj h
  simp only [mL, List.mem_cons, List.not_mem_nil, or_false] at hj
  rcases hj with rfl | rfl | rfl | rfl | rfl | rfl | rfl | rfl | rfl | rfl | rfl | rfl | rfl <;> first | rfl | exact absurd rfl h)
theorem m_w20 {A : Nat → Nat} (hA : mA A) {T : Nat → Int → Int} {G : yH} {f : Int → Int} : gset (mH A T G) (A 20) (some (1, 0), aI 0 32 f) = mH A (upN T 20 f) G := mH_set hA G (by decide) rfl (by
  intro j hj h
  simp only [mL, List.mem_cons, List.not_mem_nil, or_false] at hj
  rcases hj with rfl | rfl | rfl | rfl | rfl | rfl | rfl | rfl | rfl | rfl | rfl | rfl | rfl <;> first | rfl | exact absurd rfl h)
theorem m_w21 {A : Nat → Nat} (hA : mA A) {T : Nat → Int → Int} {G : yH} {f : Int → Int} : gset (mH A T G) (A 21) (some (1, 0), aI 0 32 f) = mH A (upN T 21 f) G := mH_set hA G (by decide) rfl (by
  intro j hj h
  simp only [mL, List.mem_cons, List.not_mem_nil, or_false] at hj
  rcases hj with rfl | rfl | rfl | rfl | rfl | rfl | rfl | rfl | rfl | rfl | rfl | rfl | rfl <;> first | rfl | exact absurd rfl h)
end Mh
section UpN
theorem upN_upN {α : Type} (f : Nat → α) (k : Nat) (v w : α) : upN (upN f k v) k w = upN f k w := by
  funext j
  simp only [upN]
  split <;> rfl
theorem upN_id {α : Type} (f : Nat → α) (k : Nat) : upN f k (f k) = f := by
  funext j
  simp only [upN]
  split
  · rename_i h
    rw [h]
  · rfl
end UpN
