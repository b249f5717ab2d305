/-! ===== State.fewest ===== -/
section Fw
variable {w : Int → Int} {o : Int}
/-- a way of k signals past no marked tower -/
def aph (w : Int → Int) (o : Int) : Nat → Nat → Int → Prop
  | 0, _, t => t = o
  | k + 1, m, t => ∃ s : Nat, (s : Int) < w 10 ∧ csP w t s ∧ m.testBit s = false ∧ aph w o k (m ||| 2 ^ s) s
theorem aph_d (hn : w 10 ≤ 8) : ∀ (k m : Nat) (t : Int), dS w o t = k → (∀ s : Nat, m.testBit s = true → dS w o s < 0 ∨ k ≤ dS w o s) → aph w o k m t
  | 0, m, t, h, hm => dS_0.mp h
  | k + 1, m, t, h, hm => by
    obtain ⟨a, s, b, c, d⟩ := dS_dn (w := w) (o := o) (t := t) (by omega)
    have es : ((s.toNat : Nat) : Int) = s := by omega
    refine ⟨s.toNat, by omega, by rw [es]; exact c, ?_, ?_⟩
    · cases e : m.testBit s.toNat with
      | false => rfl
      | true =>
        have := hm s.toNat e
        rw [es] at this
        omega
    · rw [es]
      refine aph_d hn k _ s (by omega) (fun q hq => ?_)
      rcases (tb_or m s.toNat q).mp hq with h2 | h2
      · have := hm q h2
        omega
      · rw [h2, es]
        omega
def fwR (w : Int → Int) (o : Int) (m : Nat) (t r : Int) : Prop := (0 ≤ r ∧ r ≤ 8) ∧ (r < 8 → pth w o r.toNat t) ∧ ∀ k, aph w o k m t → r ≤ k
theorem fw_top {t : Nat} {r : Int} (hn : 0 ≤ w 10 ∧ w 10 ≤ 8) (ho : 0 ≤ o ∧ o < w 10) (h : fwR w o (2 ^ t) t r) : r = if dS w o t < 0 then 8 else dS w o t := by
  obtain ⟨h1, h2, h3⟩ := h
  have hd := dS_in (w := w) (o := o) (t := (t : Int)) hn ho
  have k1 : 0 ≤ dS w o t → r ≤ dS w o t := fun h0 => by
    have := h3 (dS w o t).toNat (aph_d hn.2 _ _ _ (by omega) (fun s hs => by
      rw [Nat.testBit_two_pow, decide_eq_true_iff] at hs
      subst hs
      omega))
    omega
  by_cases e : r < 8
  · have := dS_le (h2 e)
    have := k1 this.1
    rw [if_neg (by omega)]
    omega
  · split
    · omega
    · have := k1 (by omega)
      omega
/-- of the towers below i -/
def fwL (w : Int → Int) (o : Int) (m : Nat) (t : Int) (i : Int) (n : Int) : Prop := (0 ≤ n ∧ n ≤ 8) ∧ (n < 8 → pth w o n.toNat t) ∧ ∀ s : Nat, (s : Int) < i → csP w t s → m.testBit s = false → ∀ k : Nat, aph w o k (m ||| 2 ^ s) s → n ≤ k + 1
theorem fwL_0 {m : Nat} {t : Int} : fwL w o m t 0 8 := ⟨by omega, fun h => by omega, fun s hs => by omega⟩
theorem fwL_skip {m i : Nat} {t n : Int} (h : fwL w o m t i n) (hc : csP w t i → m.testBit i = false → False) : fwL w o m t ((i + 1 : Nat) : Int) n := ⟨h.1, h.2.1, fun s hs h1 h2 k hk => by
  by_cases e : s = i
  · subst e
    exact absurd h2 (fun q => hc h1 q)
  · exact h.2.2 s (by omega) h1 h2 k hk⟩
theorem fwL_step {m i : Nat} {t n r : Int} (ht : 0 ≤ t ∧ t < w 10) (hi : (i : Int) < w 10) (h : fwL w o m t i n) (hc : csP w t i) (hr : fwR w o (m ||| 2 ^ i) i r) : fwL w o m t ((i + 1 : Nat) : Int) (min n (1 + r)) := by
  obtain ⟨h1, h2, h3⟩ := h
  obtain ⟨r1, r2, r3⟩ := hr
  refine ⟨by omega, fun hl => ?_, fun s hs q1 q2 k hk => ?_⟩
  · by_cases e : n ≤ 1 + r
    · rw [show min n (1 + r) = n by omega] at hl ⊢
      exact h2 hl
    · rw [show min n (1 + r) = 1 + r by omega, show (1 + r).toNat = r.toNat + 1 by omega]
      exact ⟨ht, i, ⟨by omega, hi⟩, hc, r2 (by omega)⟩
  · by_cases e : s = i
    · subst e
      have := r3 k hk
      omega
    · have := h3 s (by omega) q1 q2 k hk
      omega
theorem fwL_end {m : Nat} {t n : Int} (ht : t ≠ o) (h : fwL w o m t (w 10) n) : fwR w o m t n := by
  obtain ⟨h1, h2, h3⟩ := h
  refine ⟨h1, h2, fun k hk => ?_⟩
  cases k with
  | zero => exact absurd hk ht
  | succ k =>
    obtain ⟨s, a, b, c, d⟩ := hk
    have := h3 s a b c k d
    omega
/-- how many towers are not marked -/
noncomputable def umk (m : Nat) (i : Int) : Int := sumI (fun s => b2i (dB (m.testBit s.toNat = false))) i
theorem umk_or {m s : Nat} {n : Int} (hs : (s : Int) < n) (h : m.testBit s = false) : umk m n = umk (m ||| 2 ^ s) n + 1 := by
  have key := sumI_1 (f := fun q => b2i (dB (m.testBit q.toNat = false))) (g := fun q => b2i (dB ((m ||| 2 ^ s).testBit q.toNat = false))) (b := (s : Int)) (n := n) ⟨by omega, hs⟩ (fun k k0 _ k2 => by
    have e : (m ||| 2 ^ s).testBit k.toNat = m.testBit k.toNat := by
      have := tb_or m s k.toNat
      cases e1 : m.testBit k.toNat with
      | true => exact this.mpr (Or.inl e1)
      | false =>
        cases e2 : (m ||| 2 ^ s).testBit k.toNat with
        | false => rfl
        | true =>
          rcases this.mp e2 with e3 | e3
          · rw [e1] at e3
            cases e3
          · omega
    simp only [e])
  have e1 : (m ||| 2 ^ s).testBit s = true := (tb_or m s s).mpr (Or.inr rfl)
  simp only [Int.toNat_natCast] at key
  rw [b2i_dt h, b2i_df (by rw [e1]; simp)] at key
  unfold umk
  omega
theorem umk_b {m : Nat} {n : Int} (hn : 0 ≤ n) : 0 ≤ umk m n ∧ umk m n ≤ n := by
  have := sumI_b (f := fun s => b2i (dB (m.testBit s.toNat = false))) (n := n) (m := 1) (fun k _ _ => b2i_le _) hn
  unfold umk
  omega
def fcM : Nat → Nat
  | 0 => 1
  | c + 1 => 1 + (c + 1) * fcM c
end Fw
