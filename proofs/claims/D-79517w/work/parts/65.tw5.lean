/-! ===== rows under writes; the twin: what changes a row ===== -/
section Rw5
def loB (k : Int) : Int := if k < 25 then 0 else if k < 89 then (if (k - 25) % 8 = 3 then -1 else 0) else if (k - 89) % 3 = 2 then -2 else 0
def hiB (k : Int) : Int := if k < 10 then 9 else if k = 10 then 8 else if k < 13 then 12 else if k < 25 then 11 else if k < 89 then (if (k - 25) % 8 = 0 then 60 else if (k - 25) % 8 = 1 then 2 else if (k - 25) % 8 = 2 then 9 else if (k - 25) % 8 = 3 then 11 else if (k - 25) % 8 = 4 then 1 else if (k - 25) % 8 = 5 then 1 else if (k - 25) % 8 = 6 then 255 else 8) else if (k - 89) % 3 = 2 then 7 else 60
theorem SH_b {w : Int → Int} (h : SH w) (k : Int) (h3 : 3 ≤ k) (h4 : k < 125) : loB k ≤ w k ∧ w k ≤ hiB k := by
  by_cases a : k < 10
  · have := h.fog (k := k - 3) (by omega) (by omega)
    rw [show 3 + (k - 3) = k by omega] at this
    unfold loB hiB
    omega
  · by_cases b : k < 13
    · have h1 := h.nt
      have h2 := h.nl
      have h3 := h.ns
      unfold loB hiB
      rcases (show k = 10 ∨ k = 11 ∨ k = 12 by omega) with rfl | rfl | rfl <;> omega
    · by_cases c : k < 25
      · have := h.sto (k := k - 13) (by omega) (by omega)
        rw [show 13 + (k - 13) = k by omega] at this
        unfold loB hiB
        omega
      · by_cases d : k < 89
        · have := h.t (t := (k - 25) / 8) (by omega) (by omega)
          unfold tw at this
          unfold loB hiB
          rcases (show (k - 25) % 8 = 0 ∨ (k - 25) % 8 = 1 ∨ (k - 25) % 8 = 2 ∨ (k - 25) % 8 = 3 ∨ (k - 25) % 8 = 4 ∨ (k - 25) % 8 = 5 ∨ (k - 25) % 8 = 6 ∨ (k - 25) % 8 = 7 by omega) with e | e | e | e | e | e | e | e
          · rw [show 25 + 8 * ((k - 25) / 8) + 0 = k by omega] at this
            omega
          · rw [show 25 + 8 * ((k - 25) / 8) + 1 = k by omega] at this
            omega
          · rw [show 25 + 8 * ((k - 25) / 8) + 2 = k by omega] at this
            omega
          · rw [show 25 + 8 * ((k - 25) / 8) + 3 = k by omega] at this
            omega
          · rw [show 25 + 8 * ((k - 25) / 8) + 4 = k by omega] at this
            omega
          · rw [show 25 + 8 * ((k - 25) / 8) + 5 = k by omega] at this
            omega
          · rw [show 25 + 8 * ((k - 25) / 8) + 6 = k by omega] at this
            omega
          · rw [show 25 + 8 * ((k - 25) / 8) + 7 = k by omega] at this
            omega
        · have := h.l (l := (k - 89) / 3) (by omega) (by omega)
          unfold lw at this
          unfold loB hiB
          rcases (show (k - 89) % 3 = 0 ∨ (k - 89) % 3 = 1 ∨ (k - 89) % 3 = 2 by omega) with e | e | e
          · rw [show 89 + 3 * ((k - 89) / 3) + 0 = k by omega] at this
            omega
          · rw [show 89 + 3 * ((k - 89) / 3) + 1 = k by omega] at this
            omega
          · rw [show 89 + 3 * ((k - 89) / 3) + 2 = k by omega] at this
            omega
theorem SH_of {w : Int → Int} (h : ∀ k, 3 ≤ k → k < 125 → loB k ≤ w k ∧ w k ≤ hiB k) : SH w := by
  refine ⟨?_, ?_, ?_, fun k h0 h1 => ?_, fun k h0 h1 => ?_, fun t h0 h1 => ?_, fun l h0 h1 => ?_⟩
  · have := h 10 (by omega) (by omega)
    unfold loB hiB at this
    omega
  · have := h 11 (by omega) (by omega)
    unfold loB hiB at this
    omega
  · have := h 12 (by omega) (by omega)
    unfold loB hiB at this
    omega
  · have := h (3 + k) (by omega) (by omega)
    unfold loB hiB at this
    omega
  · have := h (13 + k) (by omega) (by omega)
    unfold loB hiB at this
    omega
  · have key : ∀ j, 0 ≤ j → j < 8 → loB (25 + 8 * t + j) ≤ tw w t j ∧ tw w t j ≤ hiB (25 + 8 * t + j) := fun j a b => h (25 + 8 * t + j) (by omega) (by omega)
    clear h
    refine ⟨?_, ?_, ?_, ?_, ?_, ?_, ?_, ?_⟩
    · have := key 0 (by omega) (by omega)
      clear key
      unfold loB hiB at this
      omega
    · have := key 1 (by omega) (by omega)
      clear key
      unfold loB hiB at this
      omega
    · have := key 2 (by omega) (by omega)
      clear key
      unfold loB hiB at this
      omega
    · have := key 3 (by omega) (by omega)
      clear key
      unfold loB hiB at this
      omega
    · have := key 4 (by omega) (by omega)
      clear key
      unfold loB hiB at this
      omega
    · have := key 5 (by omega) (by omega)
      clear key
      unfold loB hiB at this
      omega
    · have := key 6 (by omega) (by omega)
      clear key
      unfold loB hiB at this
      omega
    · have := key 7 (by omega) (by omega)
      clear key
      unfold loB hiB at this
      omega
  · have key : ∀ j, 0 ≤ j → j < 3 → loB (89 + 3 * l + j) ≤ lw w l j ∧ lw w l j ≤ hiB (89 + 3 * l + j) := fun j a b => h (89 + 3 * l + j) (by omega) (by omega)
    clear h
    refine ⟨?_, ?_, ?_⟩
    · have := key 0 (by omega) (by omega)
      clear key
      unfold loB hiB at this
      omega
    · have := key 1 (by omega) (by omega)
      clear key
      unfold loB hiB at this
      omega
    · have := key 2 (by omega) (by omega)
      clear key
      unfold loB hiB at this
      omega
theorem SH.up {w : Int → Int} (h : SH w) {k v : Int} (hv : 3 ≤ k → k < 125 → loB k ≤ v ∧ v ≤ hiB k) : SH (upI w k v) := SH_of (fun q h3 h4 => by
  by_cases e : q = k
  · subst e
    rw [upI_s]
    exact hv h3 h4
  · rw [upI_n _ e]
    exact SH_b h q h3 h4)
/-- rows that agree on the 128 places -/
def eqR (w v : Int → Int) : Prop := ∀ k, 0 ≤ k → k < 128 → w k = v k
theorem SH.c {w v : Int → Int} (h : SH w) (e : eqR w v) : SH v := SH_of (fun q h3 h4 => by rw [← e q (by omega) (by omega)]; exact SH_b h q h3 h4)
/-- a row whose places from off are copied -/
def cpy (s d : Int → Int) (off n : Int) : Int → Int := fun j => if off ≤ j ∧ j < off + n then s (j - off) else d j
theorem cpy_0 (s d : Int → Int) (off : Int) : cpy s d off 0 = d := by
  funext j
  unfold cpy
  rw [if_neg (by omega)]
theorem cpy_s {s d : Int → Int} {off i : Int} (h : 0 ≤ i) : upI (cpy s d off i) (off + i) (s i) = cpy s d off (i + 1) := by
  funext j
  unfold upI cpy
  by_cases e : j = off + i
  · rw [if_pos e, if_pos (by omega), show j - off = i by omega]
  · rw [if_neg e]
    by_cases e2 : off ≤ j ∧ j < off + i
    · rw [if_pos e2, if_pos (by omega)]
    · rw [if_neg e2, if_neg (by omega)]
theorem cpy_s0 {s d : Int → Int} {i : Int} (h : 0 ≤ i) : upI (cpy s d 0 i) i (s i) = cpy s d 0 (i + 1) := by
  have := cpy_s (s := s) (d := d) (off := 0) h
  rwa [Int.zero_add] at this
theorem cpy_eq (s d : Int → Int) : eqR (cpy s d 0 128) s := fun k h0 h1 => by
  unfold cpy
  rw [if_pos (by omega), Int.sub_zero]
/-- towers with too weak lenses become dark -/
noncomputable def st1 (t : Int) (w : Int → Int) : Int → Int := if tw w t 4 = 1 ∧ powS w t < 5 then upI (upI w (25 + 8 * t + 4) 0) 2 (w 2 + 1) else w
theorem st1_n {w : Int → Int} {t k : Int} (h2 : k ≠ 2) (h : k ≠ 25 + 8 * t + 4) : st1 t w k = w k := by
  unfold st1
  split
  · rw [upI_n _ h2, upI_n _ h]
  · rfl
theorem SH.st1b {w : Int → Int} (h : SH w) {t : Int} (h0 : 0 ≤ t) (h1 : t < 8) : SH (st1 t w) := by
  unfold st1
  split
  · exact (h.up (fun _ _ => by unfold loB hiB; omega)).up (fun _ _ => by omega)
  · exact h
noncomputable def stl1 (w : Int → Int) : Int → Int := itI st1 (w 10) w
theorem it1_ok {w : Int → Int} (h : SH w) : ∀ i, 0 ≤ i → (i ≤ 8 → SH (itI st1 i w) ∧ ∀ k, k ≠ 2 → (∀ t, 0 ≤ t → t < i → k ≠ 25 + 8 * t + 4) → itI st1 i w k = w k) := by
  apply intUp
  · intro _
    rw [itI_0]
    exact ⟨h, fun _ _ _ => rfl⟩
  · intro i h0 ih h1
    obtain ⟨a, b⟩ := ih (by omega)
    rw [itI_s h0]
    refine ⟨a.st1b h0 (by omega), fun k k2 kt => ?_⟩
    rw [st1_n k2 (kt i h0 (by omega))]
    exact b k k2 (fun t t0 t1 => kt t t0 (by omega))
theorem UT_c {w v : Int → Int} (hn : v 10 = w 10) (h : ∀ t, 0 ≤ t → t < w 10 → tw v t 6 = tw w t 6 ∧ tw v t 7 = tw w t 7) (hU : UT w) : UT v := by
  intro t h0 h1
  rw [hn] at h1
  unfold PO
  rw [(h t h0 h1).1, (h t h0 h1).2]
  exact hU t h0 h1
theorem stl1_ok {w : Int → Int} (h : SH w) (hU : UT w) : SH (stl1 w) ∧ UT (stl1 w) ∧ stl1 w 10 = w 10 := by
  have h1 := h.nt
  obtain ⟨a, b⟩ := it1_ok h (w 10) (by omega) (by omega)
  have h10 : stl1 w 10 = w 10 := b 10 (by decide) (fun t t0 t1 => by omega)
  exact ⟨a, UT_c h10 (fun t t0 t1 => ⟨b _ (by omega) (fun s s0 s1 => by omega), b _ (by omega) (fun s s0 s1 => by omega)⟩) hU, h10⟩
/-- the later one of the first pair becomes dark -/
noncomputable def stp2 (w : Int → Int) : Int → Int := upI (upI w (25 + 8 * misS w + 4) 0) 1 (w 1 + 1)
noncomputable def stlF : Nat → (Int → Int) → (Int → Int)
  | 0, w => w
  | n + 1, w => if misS w < 0 then w else stlF n (stp2 w)
noncomputable def litN (w : Int → Int) : Int := sumI (fun t => tw w t 4) (w 10)
theorem misR_ex (w : Int → Int) (h : 0 ≤ w 10) : ∃ r, misR w r := by
  rcases fst_or (fun a => ∃ k, a < k ∧ k < w 10 ∧ prP w a k) h with ⟨h1, h2⟩ | ⟨h1, h2, h3, h4⟩
  · exact ⟨-1, Or.inl ⟨rfl, fun j k a b c d => h2 j a (by omega) ⟨k, b, c, d⟩⟩⟩
  · rcases fst_or (fun k => fstI (fun a => ∃ k, a < k ∧ k < w 10 ∧ prP w a k) (w 10) < k ∧ prP w (fstI (fun a => ∃ k, a < k ∧ k < w 10 ∧ prP w a k) (w 10)) k) h with ⟨g1, g2⟩ | ⟨g1, g2, g3, g4⟩
    · obtain ⟨k, k1, k2, k3⟩ := h3
      exact absurd ⟨k1, k3⟩ (g2 k (by omega) k2)
    · exact ⟨_, Or.inr ⟨_, h1, g3.1, g2, g3.2, fun k k1 k2 k3 => g4 k (by omega) k2 ⟨k1, k3⟩, fun j k a b c d e => h4 j a b ⟨k, c, d, e⟩⟩⟩
theorem misS_ok {w : Int → Int} (h : 0 ≤ w 10) : misR w (misS w) := the_ok (misR_ex w h)
theorem misS_in {w : Int → Int} (h : 0 ≤ w 10) (hb : 0 ≤ misS w) : misS w < w 10 ∧ tw w (misS w) 4 = 1 := by
  rcases misS_ok h with ⟨h1, -⟩ | ⟨a, h1, h2, h3, h4, -⟩
  · omega
  · exact ⟨h3, h4.2.1⟩
theorem misS_b {w : Int → Int} (hS : SH w) : -1 ≤ misS w ∧ misS w < 8 := by
  have h1 := hS.nt
  rcases misS_ok h1.1 with ⟨h, -⟩ | ⟨a, h, h2, h3, -⟩ <;> omega
theorem sumI_1 {f g : Int → Int} {b n : Int} (hb : 0 ≤ b ∧ b < n) (h : ∀ k, 0 ≤ k → k < n → k ≠ b → f k = g k) : sumI f n + g b = sumI g n + f b := by
  have : ∀ i, 0 ≤ i → (i ≤ n → if b < i then sumI f i + g b = sumI g i + f b else sumI f i = sumI g i) := by
    apply intUp
    · intro _
      rw [if_neg (by omega), sumI_0, sumI_0]
    · intro i h0 ih h1
      have ih := ih (by omega)
      rw [sumI_s h0, sumI_s h0]
      by_cases e : b = i
      · subst e
        rw [if_neg (by omega)] at ih
        rw [if_pos (by omega)]
        omega
      · have := h i h0 (by omega) (fun q => e q.symm)
        by_cases e2 : b < i
        · rw [if_pos e2] at ih
          rw [if_pos (by omega)]
          omega
        · rw [if_neg e2] at ih
          rw [if_neg (by omega)]
          omega
  have := this n (by omega) (Int.le_refl _)
  rwa [if_pos hb.2] at this
theorem SH.lit {w : Int → Int} (h : SH w) : 0 ≤ litN w ∧ litN w ≤ 8 := by
  have h1 := h.nt
  have := sumI_b (f := fun t => tw w t 4) (n := w 10) (m := 1) (fun k k0 k1 => (h.t k0 (by omega)).2.2.2.2.1) h1.1
  unfold litN
  omega
theorem stp2_n {w : Int → Int} {k : Int} (h1 : k ≠ 1) (h : k ≠ 25 + 8 * misS w + 4) : stp2 w k = w k := by
  unfold stp2
  rw [upI_n _ h1, upI_n _ h]
theorem stp2_ok {w : Int → Int} (h : SH w) (hU : UT w) (hb : 0 ≤ misS w) : SH (stp2 w) ∧ UT (stp2 w) ∧ stp2 w 10 = w 10 ∧ litN (stp2 w) + 1 = litN w := by
  have h1 := h.nt
  have h2 := misS_b h
  have h3 := misS_in h1.1 hb
  have h10 : stp2 w 10 = w 10 := stp2_n (by omega) (by omega)
  refine ⟨?_, UT_c h10 (fun t t0 t1 => ⟨stp2_n (by omega) (by omega), stp2_n (by omega) (by omega)⟩) hU, h10, ?_⟩
  · exact (h.up (fun _ _ => by unfold loB hiB; omega)).up (fun _ _ => by omega)
  · unfold litN
    rw [h10]
    have key := sumI_1 (f := fun t => tw (stp2 w) t 4) (g := fun t => tw w t 4) (b := misS w) (n := w 10) ⟨hb, h3.1⟩ (fun k k0 k1 k2 => stp2_n (by omega) (by omega))
    have e : tw (stp2 w) (misS w) 4 = 0 := by
      unfold tw stp2
      rw [upI_n _ (by omega), upI_s]
    simp only [e, h3.2] at key
    omega
/-- light after a change -/
noncomputable def stlS (w : Int → Int) : Int → Int := stlF 8 (stl1 w)
theorem stlF_ok : ∀ (n : Nat) {w : Int → Int}, SH w → UT w → SH (stlF n w) ∧ UT (stlF n w) ∧ stlF n w 10 = w 10
  | 0, _, h, hU => ⟨h, hU, rfl⟩
  | n + 1, w, h, hU => by
    simp only [stlF]
    split
    · exact ⟨h, hU, rfl⟩
    · obtain ⟨a, b, c, -⟩ := stp2_ok h hU (by omega)
      obtain ⟨d, e, f⟩ := stlF_ok n a b
      exact ⟨d, e, f.trans c⟩
theorem stlS_ok {w : Int → Int} (h : SH w) (hU : UT w) : SH (stlS w) ∧ UT (stlS w) ∧ stlS w 10 = w 10 := by
  obtain ⟨a, b, c⟩ := stl1_ok h hU
  obtain ⟨d, e, f⟩ := stlF_ok 8 a b
  exact ⟨d, e, f.trans c⟩
theorem mis_lit0 {w : Int → Int} (h : SH w) (h0 : litN w ≤ 0) : misS w < 0 := by
  have h1 := h.nt
  by_cases e : misS w < 0
  · exact e
  · have h3 := misS_in h1.1 (by omega)
    have h2 := misS_b h
    have key := sumI_1 (f := fun t => tw w t 4) (g := fun t => if t = misS w then 0 else tw w t 4) (b := misS w) (n := w 10) ⟨by omega, h3.1⟩ (fun k k0 k1 k2 => by rw [if_neg k2])
    have k2 := sumI_b (f := fun t => if t = misS w then 0 else tw w t 4) (n := w 10) (m := 1) (fun k k0 k1 => by have := (h.t k0 (by omega)).2.2.2.2.1; split <;> omega) h1.1
    unfold litN at h0
    simp only [h3.2, if_pos] at key
    omega
/-! why not -/
noncomputable def whyLit (w : Int → Int) (t : Int) : Option (Int × Int) := if tw w t 5 = 1 then some (2, t) else if tw w t 4 = 1 then some (3, t) else if powS w t < 5 then some (5, powS w t) else if fstI (fun k => tw w k 4 = 1 ∧ mistP w k t) (w 10) < 0 then none else some (6, fstI (fun k => tw w k 4 = 1 ∧ mistP w k t) (w 10))
def whyDark (w : Int → Int) (t : Int) : Option (Int × Int) := if tw w t 4 = 1 then none else some (4, t)
def whyBroken (w : Int → Int) (t : Int) : Option (Int × Int) := if tw w t 5 = 1 then some (2, t) else none
def whyMended (w : Int → Int) (t : Int) : Option (Int × Int) := if tw w t 5 = 0 then some (7, t) else none
def whyFitted (w : Int → Int) : Option (Int × Int) := if w 12 = 0 then some (8, 0) else none
/-- keeps what hinders -/
def hinO (T : Nat → Int → Int) : Option (Int × Int) → (Nat → Int → Int)
  | none => T
  | some q => upN (upN T 1 (fun _ => q.1)) 2 (fun _ => q.2)
/-- undoing: the row of the first change, how many -/
noncomputable def rfc (T : Nat → Int → Int) : Int → Int := if T 9 0 = 8 then fun _ => (T 10 0 + 1) % 8 else T 10
noncomputable def rch (T : Nat → Int → Int) : Int := if T 9 0 = 8 then 7 else T 9 0
noncomputable def remT (T : Nat → Int → Int) : Nat → Int → Int := upN (upN (upN T 10 (rfc T)) 6 (cpy (T 8) (T 6) (128 * ((rfc T 0 + rch T) % 8)) 128)) 9 (fun _ => rch T + 1)
/-- a row behind the loss of a place of the store -/
def shf (w : Int → Int) (p i : Int) : Int → Int := fun q => if 13 + p ≤ q ∧ q < 13 + i then w (q + 1) else w q
def lvS (w : Int → Int) (p : Int) : Int → Int := upI (upI (shf w p (w 12 - 1)) 12 (w 12 - 1)) (13 + (w 12 - 1)) 0
theorem shf_0 (w : Int → Int) (p : Int) : shf w p p = w := by
  funext q
  unfold shf
  rw [if_neg (by omega)]
theorem shf_s {w : Int → Int} {p i : Int} (h : p ≤ i) : upI (shf w p i) (13 + i) (w (13 + i + 1)) = shf w p (i + 1) := by
  funext q
  unfold upI shf
  by_cases e : q = 13 + i
  · rw [if_pos e, if_pos (by omega), e]
  · rw [if_neg e]
    by_cases e2 : 13 + p ≤ q ∧ q < 13 + i
    · rw [if_pos e2, if_pos (by omega)]
    · rw [if_neg e2, if_neg (by omega)]
theorem shf_n {w : Int → Int} {p i q : Int} (h : q < 13 + p ∨ 13 + i ≤ q) : shf w p i q = w q := by
  unfold shf
  rw [if_neg (by omega)]
theorem SH.shfb {w : Int → Int} (h : SH w) {p i : Int} (hp : 0 ≤ p) (hi : i < 12) : SH (shf w p i) := SH_of (fun q h3 h4 => by
  unfold shf
  split
  · have := SH_b h (q + 1) (by omega) (by omega)
    unfold loB hiB at *
    omega
  · exact SH_b h q h3 h4)
theorem SH.lv {w : Int → Int} (h : SH w) {p : Int} (hp : 0 ≤ p ∧ p < w 12) : SH (lvS w p) := by
  have h1 := h.ns
  exact ((h.shfb hp.1 (by omega)).up (fun _ _ => by unfold loB hiB; omega)).up (fun _ _ => by unfold loB hiB; omega)
theorem lvS_12 {w : Int → Int} {p : Int} (hp : 0 < w 12) : lvS w p 12 = w 12 - 1 := by
  unfold lvS
  rw [upI_n _ (by omega), upI_s]
theorem lvS_n {w : Int → Int} {p q : Int} (h : q < 12 ∨ 25 ≤ q) (hn : 0 ≤ p ∧ p < w 12 ∧ w 12 ≤ 12) : lvS w p q = w q := by
  unfold lvS
  rw [upI_n _ (by omega), upI_n _ (by omega), shf_n (by omega)]
def stoS (w : Int → Int) (l : Int) : Int → Int := upI (upI (upI w (13 + w 12) l) 12 (w 12 + 1)) (89 + 3 * l + 2) (-1)
theorem SH.sto' {w : Int → Int} (h : SH w) {l : Int} (hl : 0 ≤ l ∧ l < 12) (hn : w 12 < 12) : SH (stoS w l) := by
  have h1 := h.ns
  exact ((h.up (fun _ _ => by unfold loB hiB; omega)).up (fun _ _ => by unfold loB hiB; omega)).up (fun _ _ => by unfold loB hiB; omega)
/-- the first lens of the store comes into a tower; its own goes into the store -/
def fit0 (w : Int → Int) (t : Int) : Int → Int := if tw w t 3 < 0 then lvS w 0 else stoS (lvS w 0) (tw w t 3)
def fitS (w : Int → Int) (t : Int) : Int → Int := upI (upI (fit0 w t) (25 + 8 * t + 3) (w 13)) (89 + 3 * w 13 + 2) t
theorem SH.fit0b {w : Int → Int} (h : SH w) {t : Int} (ht : 0 ≤ t ∧ t < 8) (hn : 0 < w 12) : SH (fit0 w t) := by
  have h1 := h.ns
  have h2 := h.t ht.1 ht.2
  unfold fit0
  split
  · exact h.lv ⟨by omega, hn⟩
  · exact (h.lv ⟨by omega, hn⟩).sto' (by omega) (by rw [lvS_12 hn]; omega)
theorem SH.fit {w : Int → Int} (h : SH w) {t : Int} (ht : 0 ≤ t ∧ t < 8) (hn : 0 < w 12) : SH (fitS w t) := by
  have h3 := h.sto (k := 0) (by omega) (by omega)
  simp only [Int.add_zero] at h3
  exact ((h.fit0b ht hn).up (fun _ _ => by unfold loB hiB; omega)).up (fun _ _ => by unfold loB hiB; omega)
def brkS (w : Int → Int) (t : Int) : Int → Int := upI (upI w (25 + 8 * t + 5) 1) (25 + 8 * t + 4) 0
def patS (w : Int → Int) (t s m : Int) : Int → Int := upI (upI w (25 + 8 * t + 6) s) (25 + 8 * t + 7) m
end Rw5
