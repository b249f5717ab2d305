/-! ===== the search of distances, in plain words ===== -/
section Bf
variable {w : Int → Int} {o : Int}
/-- what holds of the distances f with the towers xs still to be looked at, while u (distance r) is looked at -/
def BQ (w : Int → Int) (o : Int) (f : Int → Int) (xs : List Nat) (u r : Int) : Prop := (∀ j, 0 ≤ j → j < 8 → f j = -1 ∨ (0 ≤ f j ∧ f j = dS w o j)) ∧ f o = 0 ∧ (∀ x : Nat, x ∈ xs → (x : Int) < w 10 ∧ r ≤ f x ∧ f x ≤ r + 1) ∧ xs.Pairwise (fun x y : Nat => f x ≤ f y) ∧ (∀ j, 0 ≤ j → j < w 10 → 0 ≤ f j → (∀ x : Nat, x ∈ xs → (x : Int) ≠ j) → j ≠ u → ∀ t, 0 ≤ t → t < w 10 → csP w t j → 0 ≤ f t) ∧ (0 ≤ u → u < w 10 ∧ f u = r) ∧ 0 ≤ r
/-- the tower by which a way begins -/
theorem dS_dn {t : Int} (h : 0 < dS w o t) : (0 ≤ t ∧ t < w 10) ∧ ∃ s, (0 ≤ s ∧ s < w 10) ∧ csP w t s ∧ dS w o s = dS w o t - 1 := by
  have hp := dS_p (w := w) (o := o) (t := t) (by omega)
  rw [show (dS w o t).toNat = ((dS w o t).toNat - 1) + 1 by omega] at hp
  obtain ⟨a, s, b, c, d⟩ := hp
  have hs := dS_le d
  have hk := dS_le (w := w) (o := o) (t := t) (k := (dS w o s).toNat + 1) ⟨a, s, b, c, dS_p hs.1⟩
  exact ⟨a, s, b, c, by omega⟩
theorem dS_up {t s : Int} (ht : 0 ≤ t ∧ t < w 10) (hs : 0 ≤ s ∧ s < w 10) (hc : csP w t s) (h : 0 ≤ dS w o s) : 0 ≤ dS w o t ∧ dS w o t ≤ dS w o s + 1 := by
  have := dS_le (w := w) (o := o) (t := t) (k := (dS w o s).toNat + 1) ⟨ht, s, hs, hc, dS_p h⟩
  omega
theorem BQ_low {f : Int → Int} {xs : List Nat} {u r : Int} (hn : w 10 ≤ 8) (h : BQ w o f xs u r) (hu : 0 ≤ u) : ∀ k : Nat, (k : Int) < r → ∀ s, dS w o s = k → 0 ≤ f s := by
  obtain ⟨h1, h2, h3, h4, h5, h6, h7⟩ := h
  intro k
  induction k with
  | zero =>
    intro _ s hs
    rw [dS_0.mp hs, h2]
    omega
  | succ k ih =>
    intro hk s hs
    obtain ⟨a, q, b, c, d⟩ := dS_dn (w := w) (o := o) (t := s) (by omega)
    have hq := ih (by omega) q (by omega)
    have e : f q = dS w o q := by
      rcases h1 q b.1 (by omega) with e | e
      · omega
      · exact e.2
    refine h5 q b.1 b.2 hq (fun x hx e2 => ?_) (fun e2 => ?_) s a.1 a.2 c
    · have := (h3 x hx).2.1
      rw [e2] at this
      omega
    · have := (h6 hu).2
      rw [← e2] at this
      omega
theorem BQ_d {f : Int → Int} {xs : List Nat} {u r : Int} (hn : w 10 ≤ 8) (h : BQ w o f xs u r) (hu : 0 ≤ u) {t : Int} (ht : 0 ≤ t ∧ t < w 10) (hf : f t < 0) (hc : csP w t u) : dS w o t = r + 1 := by
  have hl := BQ_low hn h hu
  obtain ⟨h1, h2, h3, h4, h5, h6, h7⟩ := h
  have eu : f u = dS w o u := by
    rcases h1 u hu (by omega) with e | e
    · have := (h6 hu).2
      omega
    · exact e.2
  have hur := h6 hu
  have hup := dS_up (o := o) ht ⟨hu, hur.1⟩ hc (by omega)
  by_cases e : dS w o t ≤ r
  · exfalso
    by_cases e0 : dS w o t = 0
    · rw [dS_0.mp e0, h2] at hf
      omega
    · obtain ⟨a, q, b, c, d⟩ := dS_dn (w := w) (o := o) (t := t) (by omega)
      have hqd : 0 ≤ dS w o q := by omega
      have hq := hl (dS w o q).toNat (by omega) q (by omega)
      have eq : f q = dS w o q := by
        rcases h1 q b.1 (by omega) with e | e
        · omega
        · exact e.2
      have := h5 q b.1 b.2 hq (fun x hx e2 => by
        have := (h3 x hx).2.1
        rw [e2] at this
        omega) (fun e2 => by
        have := hur.2
        rw [← e2] at this
        omega) t ht.1 ht.2 c
      omega
  · omega
theorem BQ_push {f : Int → Int} {xs : List Nat} {u r : Int} (hn : w 10 ≤ 8) (ho : 0 ≤ o ∧ o < w 10) (h : BQ w o f xs u r) (hu : 0 ≤ u) {t : Nat} (ht : (t : Int) < w 10) (hf : f t < 0) (hc : csP w t u) : BQ w o (upI f t (r + 1)) (xs ++ [t]) u r := by
  have hd := BQ_d hn h hu ⟨by omega, ht⟩ hf hc
  obtain ⟨h1, h2, h3, h4, h5, h6, h7⟩ := h
  have hx : ∀ x : Nat, x ∈ xs → upI f t (r + 1) x = f x := fun x hx => upI_n _ (fun e => by
    have := (h3 x hx).2.1
    rw [e] at this
    omega)
  have hk : ∀ j, 0 ≤ f j → upI f t (r + 1) j = f j := fun j hj => upI_n _ (fun e => by rw [e] at hj; omega)
  refine ⟨fun j j0 j1 => ?_, ?_, fun x hx2 => ?_, ?_, fun j j0 j1 j2 j3 j4 q q0 q1 q2 => ?_, fun _ => ⟨(h6 hu).1, ?_⟩, h7⟩
  · by_cases e : j = t
    · rw [e, upI_s]
      exact Or.inr ⟨by omega, by omega⟩
    · rw [upI_n _ e]
      exact h1 j j0 j1
  · rw [hk o (by omega)]
    exact h2
  · rw [List.mem_append] at hx2
    rcases hx2 with hx2 | hx2
    · rw [hx x hx2]
      exact h3 x hx2
    · rw [List.mem_singleton] at hx2
      rw [hx2, upI_s]
      exact ⟨ht, by omega, by omega⟩
  · rw [List.pairwise_append]
    refine ⟨?_, List.pairwise_singleton _ _, fun x hx2 y hy => ?_⟩
    · refine h4.imp_of_mem (fun {x y} hx2 hy2 q => ?_)
      rw [hx x hx2, hx y hy2]
      exact q
    · rw [List.mem_singleton] at hy
      rw [hx x hx2, hy, upI_s]
      exact (h3 x hx2).2.2
  · have hjt : j ≠ t := fun e => j3 t (by simp) e.symm
    rw [upI_n _ hjt] at j2
    have := h5 j j0 j1 j2 (fun x hx2 => j3 x (by simp [hx2])) j4 q q0 q1 q2
    rw [hk q this]
    exact this
  · rw [hk u (by have := (h6 hu).2; omega)]
    exact (h6 hu).2
theorem BQ_pop {f : Int → Int} {x : Nat} {xs : List Nat} {u r : Int} (hx : x ∉ xs) (h : BQ w o f (x :: xs) u r) (hc : 0 ≤ u → ∀ t, 0 ≤ t → t < w 10 → csP w t u → 0 ≤ f t) : BQ w o f xs x (f x) := by
  obtain ⟨h1, h2, h3, h4, h5, h6, h7⟩ := h
  have h3x := h3 x (by simp)
  rw [List.pairwise_cons] at h4
  refine ⟨h1, h2, fun y hy => ?_, h4.2, fun j j0 j1 j2 j3 j4 t t0 t1 t2 => ?_, fun _ => ⟨h3x.1, rfl⟩, by omega⟩
  · have := h3 y (by simp [hy])
    have := h4.1 y hy
    exact ⟨(h3 y (by simp [hy])).1, by omega, by omega⟩
  · by_cases e : j = u
    · subst e
      exact hc j0 t t0 t1 t2
    · refine h5 j j0 j1 j2 (fun y hy e2 => ?_) e t t0 t1 t2
      rw [List.mem_cons] at hy
      rcases hy with hy | hy
      · rw [hy] at e2
        exact j4 e2.symm
      · exact j3 y hy e2
theorem BQ_fin {f : Int → Int} {u r : Int} (hn : w 10 ≤ 8) (h : BQ w o f [] u r) (hc : 0 ≤ u → ∀ t, 0 ≤ t → t < w 10 → csP w t u → 0 ≤ f t) : ∀ j, 0 ≤ j → j < 8 → f j = dS w o j := by
  obtain ⟨h1, h2, h3, h4, h5, h6, h7⟩ := h
  have key : ∀ k : Nat, ∀ s, dS w o s = k → 0 ≤ f s := by
    intro k
    induction k with
    | zero =>
      intro s hs
      rw [dS_0.mp hs, h2]
      omega
    | succ k ih =>
      intro s hs
      obtain ⟨a, q, b, c, d⟩ := dS_dn (w := w) (o := o) (t := s) (by omega)
      have hq := ih q (by omega)
      by_cases e : q = u
      · subst e
        exact hc b.1 s a.1 a.2 c
      · exact h5 q b.1 b.2 hq (fun x hx => by simp at hx) e s a.1 a.2 c
  intro j j0 j1
  rcases h1 j j0 j1 with e | e
  · rcases dS_ok w o j with ⟨g, -⟩ | ⟨g, -⟩
    · omega
    · have := key (dS w o j).toNat j (by omega)
      omega
  · exact e.2
theorem BQ_0 {f : Int → Int} {t : Nat} (ht : (t : Int) < w 10) (hf : ∀ j, 0 ≤ j → j < 8 → f j = if j = t then 0 else -1) (hn : w 10 ≤ 8) : BQ w t f [t] (-1) 0 := by
  have h0 := hf t (by omega) (by omega)
  rw [if_pos rfl] at h0
  refine ⟨fun j j0 j1 => ?_, h0, fun x hx => ?_, List.pairwise_singleton _ _, fun j j0 j1 j2 j3 => ?_, fun q => by omega, by omega⟩
  · have := hf j j0 j1
    by_cases e : j = t
    · rw [e, h0]
      exact Or.inr ⟨by omega, (dS_0.mpr rfl).symm⟩
    · rw [if_neg e] at this
      exact Or.inl this
  · rw [List.mem_singleton] at hx
    rw [hx, h0]
    exact ⟨ht, by omega, by omega⟩
  · have := hf j j0 (by omega)
    rw [if_neg (fun e => j3 t (by simp) e.symm)] at this
    omega
/-- how many are found -/
noncomputable def cN (f : Int → Int) : Int := sumI (fun j => b2i (dB (0 ≤ f j))) 8
theorem cN_b (f : Int → Int) : 0 ≤ cN f ∧ cN f ≤ 8 := by
  have := sumI_b (f := fun j => b2i (dB (0 ≤ f j))) (n := 8) (m := 1) (fun k _ _ => b2i_le _) (by omega)
  unfold cN
  omega
theorem cN_up {f : Int → Int} {t v : Int} (ht : 0 ≤ t ∧ t < 8) (hf : f t < 0) (hv : 0 ≤ v) : cN (upI f t v) = cN f + 1 := by
  have key := sumI_1 (f := fun j => b2i (dB (0 ≤ upI f t v j))) (g := fun j => b2i (dB (0 ≤ f j))) (b := t) (n := 8) ht (fun k _ _ k2 => by rw [upI_n _ k2])
  simp only [upI_s] at key
  rw [b2i_dt hv, b2i_df (show ¬ 0 ≤ f t by omega)] at key
  unfold cN
  omega
end Bf
