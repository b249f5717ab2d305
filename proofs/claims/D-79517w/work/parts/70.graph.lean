/-! ===== ways of signals: walks, distances; the twin's far, route ===== -/
section Gr
/-- a walk of k signals from t to the tower o -/
def pth (w : Int → Int) (o : Int) : Nat → Int → Prop
  | 0, t => t = o
  | k + 1, t => (0 ≤ t ∧ t < w 10) ∧ ∃ s, (0 ≤ s ∧ s < w 10) ∧ csP w t s ∧ pth w o k s
theorem pth_add {w : Int → Int} {o : Int} : ∀ (i : Nat) {k : Nat} {t s : Int}, pth w s i t → pth w o k s → pth w o (i + k) t
  | 0, k, t, s, h, g => by
    rw [Nat.zero_add]
    have h : t = s := h
    rw [h]
    exact g
  | i + 1, k, t, s, h, g => by
    obtain ⟨h1, q, h2, h3, h4⟩ := h
    rw [show i + 1 + k = (i + k) + 1 by omega]
    exact ⟨h1, q, h2, h3, pth_add i h4 g⟩
/-- a walk's last signal -/
theorem pth_last {w : Int → Int} {o : Int} : ∀ {k : Nat} {t : Int}, pth w o (k + 1) t → ∃ s, (0 ≤ s ∧ s < w 10) ∧ pth w s k t ∧ csP w s o ∧ 0 ≤ o ∧ o < w 10
  | 0, t, h => by
    obtain ⟨h1, q, h2, h3, h4⟩ := h
    have h4 : q = o := h4
    subst h4
    exact ⟨t, h1, rfl, h3, h2⟩
  | k + 1, t, h => by
    obtain ⟨h1, q, h2, h3, h4⟩ := h
    obtain ⟨s, s1, s2, s3⟩ := pth_last (k := k) h4
    exact ⟨s, s1, ⟨h1, q, h2, h3, s2⟩, s3⟩
/-- at most r signals -/
def RL (w : Int → Int) (o : Int) (r : Nat) (t : Int) : Prop := ∃ k, k ≤ r ∧ pth w o k t
theorem RL_up {w : Int → Int} {o : Int} {r s : Nat} {t : Int} (h : RL w o r t) (hs : r ≤ s) : RL w o s t := by
  obtain ⟨k, h1, h2⟩ := h
  exact ⟨k, by omega, h2⟩
theorem RL_s {w : Int → Int} {o : Int} {r : Nat} {t : Int} : RL w o (r + 1) t ↔ t = o ∨ ((0 ≤ t ∧ t < w 10) ∧ ∃ s, (0 ≤ s ∧ s < w 10) ∧ csP w t s ∧ RL w o r s) := by
  constructor
  · rintro ⟨k, h1, h2⟩
    cases k with
    | zero => exact Or.inl h2
    | succ k =>
      obtain ⟨a, s, b, c, d⟩ := h2
      exact Or.inr ⟨a, s, b, c, k, by omega, d⟩
  · rintro (h | ⟨a, s, b, c, k, h1, h2⟩)
    · exact ⟨0, by omega, h⟩
    · exact ⟨k + 1, by omega, a, s, b, c, h2⟩
/-- once no more come, never more come -/
theorem RL_stop {w : Int → Int} {o : Int} {r : Nat} (h : ∀ t, RL w o (r + 1) t → RL w o r t) : ∀ s t, RL w o s t → RL w o r t := by
  have key : ∀ s t, RL w o (r + s) t → RL w o r t := by
    intro s
    induction s with
    | zero => intro t q; exact q
    | succ s ih =>
      intro t q
      rw [show r + (s + 1) = (r + s) + 1 by omega, RL_s] at q
      apply h
      rw [RL_s]
      rcases q with q | ⟨a, v, b, c, d⟩
      · exact Or.inl q
      · exact Or.inr ⟨a, v, b, c, ih v d⟩
  intro s t q
  exact key s t (RL_up q (by omega))
theorem RL_cnt {w : Int → Int} {o : Int} (hn : 0 ≤ w 10) (ho : 0 ≤ o ∧ o < w 10) : ∀ r : Nat, (∃ q, q < r ∧ ∀ t, RL w o (q + 1) t → RL w o q t) ∨ (r : Int) + 1 ≤ sumI (fun t => b2i (dB (RL w o r t))) (w 10)
  | 0 => by
    right
    have key := sumI_1 (f := fun t => b2i (dB (RL w o 0 t))) (g := fun t => if t = o then 0 else b2i (dB (RL w o 0 t))) (b := o) (n := w 10) ho (fun k _ _ k2 => by rw [if_neg k2])
    have k2 := sumI_b (f := fun t => if t = o then 0 else b2i (dB (RL w o 0 t))) (n := w 10) (m := 1) (fun k _ _ => by have := b2i_le (dB (RL w o 0 k)); split <;> omega) hn
    have e : b2i (dB (RL w o 0 o)) = 1 := b2i_dt ⟨0, by omega, rfl⟩
    simp only [e, if_pos] at key
    omega
  | r + 1 => by
    rcases RL_cnt hn ho r with ⟨q, h1, h2⟩ | h
    · exact Or.inl ⟨q, by omega, h2⟩
    · by_cases hs : ∀ t, RL w o (r + 1) t → RL w o r t
      · exact Or.inl ⟨r, by omega, hs⟩
      · right
        obtain ⟨t, ht⟩ := Classical.not_forall.mp hs
        obtain ⟨t1, t2⟩ := Classical.not_imp.mp ht
        have htn : 0 ≤ t ∧ t < w 10 := by
          obtain ⟨k, k1, k2⟩ := t1
          cases k with
          | zero => have k2 : t = o := k2; rw [k2]; exact ho
          | succ k => exact k2.1
        have key := sumI_1 (f := fun t => b2i (dB (RL w o (r + 1) t))) (g := fun q => if q = t then 0 else b2i (dB (RL w o (r + 1) q))) (b := t) (n := w 10) htn (fun k _ _ k2 => by rw [if_neg k2])
        have e : b2i (dB (RL w o (r + 1) t)) = 1 := b2i_dt t1
        simp only [e, if_pos] at key
        have le : ∀ i, 0 ≤ i → (i ≤ w 10 → sumI (fun t => b2i (dB (RL w o r t))) i ≤ sumI (fun q => if q = t then 0 else b2i (dB (RL w o (r + 1) q))) i) := by
          apply intUp
          · intro _; rw [sumI_0, sumI_0]; exact Int.le_refl _
          · intro i i0 ih i1
            have ih := ih (by omega)
            rw [sumI_s i0, sumI_s i0]
            have : b2i (dB (RL w o r i)) ≤ if i = t then 0 else b2i (dB (RL w o (r + 1) i)) := by
              by_cases e2 : i = t
              · rw [if_pos e2, e2, b2i_df t2]
                exact Int.le_refl _
              · rw [if_neg e2]
                by_cases e3 : RL w o r i
                · rw [b2i_dt e3, b2i_dt (RL_up e3 (by omega))]
                  exact Int.le_refl _
                · rw [b2i_df e3]
                  exact (b2i_le _).1
            omega
        have le := le _ hn (Int.le_refl _)
        omega
/-- whoever comes, comes by at most seven signals -/
theorem RL_7 {w : Int → Int} {o : Int} (hn : 0 ≤ w 10 ∧ w 10 ≤ 8) (ho : 0 ≤ o ∧ o < w 10) {s : Nat} {t : Int} (h : RL w o s t) : RL w o 7 t := by
  rcases RL_cnt hn.1 ho 8 with ⟨q, h1, h2⟩ | h3
  · exact RL_up (RL_stop h2 s t h) (by omega)
  · have := sumI_b (f := fun t => b2i (dB (RL w o 8 t))) (n := w 10) (m := 1) (fun k _ _ => b2i_le _) hn.1
    omega
/-- the distance; -1: none -/
def dR (w : Int → Int) (o t d : Int) : Prop := (d = -1 ∧ ∀ k, ¬ pth w o k t) ∨ (0 ≤ d ∧ pth w o d.toNat t ∧ ∀ k : Nat, (k : Int) < d → ¬ pth w o k t)
theorem dR_u {w : Int → Int} {o t d e : Int} (h : dR w o t d) (h' : dR w o t e) : d = e := by
  rcases h with ⟨h1, h2⟩ | ⟨h1, h2, h3⟩
  · rcases h' with ⟨g1, g2⟩ | ⟨g1, g2, g3⟩
    · omega
    · exact absurd g2 (h2 _)
  · rcases h' with ⟨g1, g2⟩ | ⟨g1, g2, g3⟩
    · exact absurd h2 (g2 _)
    · by_cases a : d < e
      · exact absurd h2 (g3 _ (by omega))
      · by_cases b : e < d
        · exact absurd g2 (h3 _ (by omega))
        · omega
noncomputable def dS (w : Int → Int) (o t : Int) : Int := theI (dR w o t)
theorem dR_ex (w : Int → Int) (o t : Int) : ∃ d, dR w o t d := by
  by_cases h : ∃ k, pth w o k t
  · obtain ⟨k, hk⟩ := h
    have : ∀ n : Nat, (∃ k, k < n ∧ pth w o k t) → ∃ k, k < n ∧ pth w o k t ∧ ∀ j, j < k → ¬ pth w o j t := by
      intro n
      induction n with
      | zero => rintro ⟨k, k1, _⟩; omega
      | succ n ih =>
        rintro ⟨k, k1, k2⟩
        by_cases e : ∃ k, k < n ∧ pth w o k t
        · obtain ⟨q, q1, q2, q3⟩ := ih e
          exact ⟨q, by omega, q2, q3⟩
        · have : k = n := by
            by_cases e2 : k < n
            · exact absurd ⟨k, e2, k2⟩ e
            · omega
          subst this
          exact ⟨k, by omega, k2, fun j j1 j2 => e ⟨j, j1, j2⟩⟩
    obtain ⟨q, q1, q2, q3⟩ := this (k + 1) ⟨k, by omega, hk⟩
    exact ⟨q, Or.inr ⟨by omega, by rw [Int.toNat_natCast]; exact q2, fun j j1 => q3 j (by omega)⟩⟩
  · exact ⟨-1, Or.inl ⟨rfl, fun k hk => h ⟨k, hk⟩⟩⟩
theorem dS_ok (w : Int → Int) (o t : Int) : dR w o t (dS w o t) := the_ok (dR_ex w o t)
theorem dS_eq {w : Int → Int} {o t d : Int} (h : dR w o t d) : dS w o t = d := the_eq (fun _ _ => dR_u) h
theorem dS_in {w : Int → Int} {o t : Int} (hn : 0 ≤ w 10 ∧ w 10 ≤ 8) (ho : 0 ≤ o ∧ o < w 10) : -1 ≤ dS w o t ∧ dS w o t ≤ 7 := by
  rcases dS_ok w o t with ⟨h, _⟩ | ⟨h1, h2, h3⟩
  · omega
  · obtain ⟨k, k1, k2⟩ := RL_7 hn ho (⟨_, Nat.le_refl _, h2⟩ : RL w o (dS w o t).toNat t)
    by_cases e : (k : Int) < dS w o t
    · exact absurd k2 (h3 k e)
    · omega
/-- no shorter way than the distance -/
theorem dS_le {w : Int → Int} {o t : Int} {k : Nat} (h : pth w o k t) : 0 ≤ dS w o t ∧ dS w o t ≤ k := by
  rcases dS_ok w o t with ⟨h1, h2⟩ | ⟨h1, h2, h3⟩
  · exact absurd h (h2 k)
  · by_cases e : (k : Int) < dS w o t
    · exact absurd h (h3 k e)
    · omega
theorem dS_p {w : Int → Int} {o t : Int} (h : 0 ≤ dS w o t) : pth w o (dS w o t).toNat t := by
  rcases dS_ok w o t with ⟨h1, h2⟩ | ⟨h1, h2, h3⟩
  · omega
  · exact h2
theorem dS_0 {w : Int → Int} {o t : Int} : dS w o t = 0 ↔ t = o := by
  constructor
  · intro h
    have := dS_p (w := w) (o := o) (t := t) (by omega)
    rw [h] at this
    exact this
  · intro h
    have := dS_le (w := w) (o := o) (t := t) (k := 0) h
    omega
/-- the lowest tower by which a word goes on -/
noncomputable def nxS (w : Int → Int) (o t : Int) : Int := fstI (fun k => csP w t k ∧ dS w o k = dS w o t - 1) (w 10)
theorem nxS_ok {w : Int → Int} {o t : Int} (hn : 0 ≤ w 10) (h : 0 < dS w o t) : (0 ≤ nxS w o t ∧ nxS w o t < w 10) ∧ csP w t (nxS w o t) ∧ dS w o (nxS w o t) = dS w o t - 1 := by
  have hp := dS_p (w := w) (o := o) (t := t) (by omega)
  rw [show (dS w o t).toNat = ((dS w o t).toNat - 1) + 1 by omega] at hp
  obtain ⟨a, s, b, c, d⟩ := hp
  have hs := dS_le d
  have : dS w o s = dS w o t - 1 := by
    have hk := dS_le (w := w) (o := o) (t := t) (k := (dS w o s).toNat + 1) ⟨a, s, b, c, dS_p hs.1⟩
    omega
  rcases fst_or (fun k => csP w t k ∧ dS w o k = dS w o t - 1) hn with ⟨h1, h2⟩ | ⟨h1, h2, h3, h4⟩
  · exact absurd ⟨c, this⟩ (h2 s b.1 b.2)
  · exact ⟨⟨h1, h2⟩, h3⟩
/-- the i-th tower of a route -/
noncomputable def rtS (w : Int → Int) (o t i : Int) : Int := itI (fun _ x => nxS w o x) i t
theorem rtS_0 (w : Int → Int) (o t : Int) : rtS w o t 0 = t := itI_0 _ _
theorem rtS_s {w : Int → Int} {o t i : Int} (h : 0 ≤ i) : rtS w o t (i + 1) = nxS w o (rtS w o t i) := itI_s h
theorem rtS_ok {w : Int → Int} {o t : Int} (hn : 0 ≤ w 10) (ht : 0 ≤ t ∧ t < w 10) (hd : 0 ≤ dS w o t) : ∀ i, 0 ≤ i → (i ≤ dS w o t → (0 ≤ rtS w o t i ∧ rtS w o t i < w 10) ∧ dS w o (rtS w o t i) = dS w o t - i) := by
  apply intUp
  · intro _
    rw [rtS_0]
    exact ⟨ht, by omega⟩
  · intro i h0 ih h1
    obtain ⟨a, b⟩ := ih (by omega)
    have := nxS_ok hn (o := o) (t := rtS w o t i) (by omega)
    rw [rtS_s h0]
    exact ⟨this.1, by rw [this.2.2, b]; omega⟩
/-- the twin's distances: far away is 1000 -/
noncomputable def fS (w : Int → Int) (o t : Int) : Int := if dS w o t < 0 then 1000 else dS w o t
noncomputable def farRow (w : Int → Int) (o : Int) (f : Int → Int) : Int → Int := fun j => if 0 ≤ j ∧ j < 8 then fS w o j else f j
/-- what holds of distances that are being found -/
def SD (w : Int → Int) (o : Int) (f : Int → Int) : Prop := ∀ j, 0 ≤ j → j < 8 → 0 ≤ f j ∧ f j ≤ 1000 ∧ (f j < 1000 → pth w o (f j).toNat j)
def PR (w : Int → Int) (o : Int) (r : Nat) (f : Int → Int) (m : Int) : Prop := ∀ j, 0 ≤ j → j < m → ∀ k : Nat, k ≤ r → pth w o k j → f j ≤ k
theorem SD_fin {w : Int → Int} {o : Int} {f g : Int → Int} (hn : 0 ≤ w 10 ∧ w 10 ≤ 8) (ho : 0 ≤ o ∧ o < w 10) (h : SD w o f) (hp : PR w o 8 f 8) (hg : ∀ j, ¬ (0 ≤ j ∧ j < 8) → f j = g j) : f = farRow w o g := by
  funext j
  unfold farRow
  by_cases e : 0 ≤ j ∧ j < 8
  · rw [if_pos e]
    obtain ⟨a, b, c⟩ := h j e.1 e.2
    have hi := dS_in (t := j) hn ho
    unfold fS
    by_cases e2 : dS w o j < 0
    · rw [if_pos e2]
      by_cases e3 : f j < 1000
      · have := dS_le (c e3)
        omega
      · omega
    · rw [if_neg e2]
      have h1 := hp j e.1 e.2 (dS w o j).toNat (by omega) (dS_p (by omega))
      have h2 := dS_le (c (by omega))
      omega
  · rw [if_neg e]
    exact hg j e
theorem SD_up {w : Int → Int} {o t s : Int} {f : Int → Int} (h : SD w o f) (ht : 0 ≤ t ∧ t < w 10) (hs : 0 ≤ s ∧ s < w 10) (hn : w 10 ≤ 8) (hc : csP w t s) (hl : f s + 1 < f t) : SD w o (upI f t (f s + 1)) := by
  intro j j0 j1
  obtain ⟨a, b, c⟩ := h s hs.1 (by omega)
  obtain ⟨a', b', c'⟩ := h t ht.1 (by omega)
  by_cases e : j = t
  · subst e
    rw [upI_s]
    refine ⟨by omega, by omega, fun _ => ?_⟩
    rw [show (f s + 1).toNat = (f s).toNat + 1 by omega]
    exact ⟨ht, s, hs, hc, c (by omega)⟩
  · rw [upI_n _ e]
    exact h j j0 j1
theorem PR_up {w : Int → Int} {o t v : Int} {r : Nat} {m : Int} {f : Int → Int} (h : PR w o r f m) (hl : v ≤ f t) : PR w o r (upI f t v) m := by
  intro j j0 j1 k k0 k1
  have := h j j0 j1 k k0 k1
  by_cases e : j = t
  · subst e
    rw [upI_s]
    omega
  · rw [upI_n _ e]
    exact this
end Gr
section Tw10
variable {Γ : yG} {A : Nat → Nat} {T : Nat → Int → Int} {G : yH}
set_option maxHeartbeats 4000000
theorem m_findFar (hA : mA A) (hS : SH (T 5)) {o : Int} (ho : 0 ≤ o ∧ o < T 5 10) : Ct_X3_findFar Γ 6 0 0 [.ref (A 0), .int (iI (o))] (mH A T G) (fun v G' => v = none ∧ G' = mH A (upN T 12 (farRow (T 5) o (T 12))) G) noX := by
  refine y_start (lv0 := [some (.ref (A 0)), some (.int (iI (o))), none, none, none]) (nm := "findFar") (own := RX3) (by decide +kernel) rfl rfl (by exact Nat.le_of_ble_eq_true rfl) (by rfl) ?_
  intro Z Q E F
  have hn := hS.nt
  have rounds : ∀ r : Int, ∀ (f : Int → Int) (l3 l4 : Option Value), 0 ≤ r → r ≤ 8 → SD (T 5) o f → PR (T 5) o r.toNat f 8 → (∀ j, ¬ (0 ≤ j ∧ j < 8) → f j = T 12 j) → Y Γ Z 0 0 Q (mH A (upN T 12 f) G) 34 [some (.ref (A 0)), some (.int (iI o)), some (.int (iI r)), l3, l4] [] := by
    refine loopDown 8 ?_
    intro r ihr f l3 l4 r0 r1 hSD hPR hg
    have mid : r < 8 → ∀ t : Int, ∀ (f : Int → Int) (l4 : Option Value), 0 ≤ t → t ≤ T 5 10 → SD (T 5) o f → PR (T 5) o r.toNat f 8 → PR (T 5) o (r + 1).toNat f t → (∀ j, ¬ (0 ≤ j ∧ j < 8) → f j = T 12 j) → Y Γ Z 0 0 Q (mH A (upN T 12 f) G) 42 [some (.ref (A 0)), some (.int (iI o)), some (.int (iI r)), some (.int (iI t)), l4] [] := by
      intro hr8
      refine loopDown (T 5 10) ?_
      intro t iht f l4 t0 t1 hSD hPR hPt hg
      have inner : t < T 5 10 → ∀ s : Int, ∀ (f : Int → Int), 0 ≤ s → s ≤ T 5 10 → SD (T 5) o f → PR (T 5) o r.toNat f 8 → PR (T 5) o (r + 1).toNat f t → (∀ j, ¬ (0 ≤ j ∧ j < 8) → f j = T 12 j) → (∀ q, 0 ≤ q → q < s → csP (T 5) t q → f t ≤ f q + 1) → Y Γ Z 0 0 Q (mH A (upN T 12 f) G) 56 [some (.ref (A 0)), some (.int (iI o)), some (.int (iI r)), some (.int (iI t)), some (.int (iI s))] [] := by
        intro htn
        refine loopDown (T 5 10) ?_
        intro s ihs f s0 s1 hSD hPR hPt hg hq
        have ht8 := hSD t t0 (by omega)
        have hs8 := fun h : s < 8 => hSD s s0 h
        have hc0 := fun h : s < 8 => hSD s s0 h
        refine y_iload E dX3_findFar_56 (by rfl) ?_
        first | refine y_ald_n E dX3_findFar_58 (by rfl) ?_ | refine y_aload_n E dX3_findFar_58 (by rfl) ?_
        refine y_get E dX3_findFar_59 fl_X3_13_X3 (m_o hA _ _) (by rfl) ?_
        refine y_bipush E dX3_findFar_62 (by decide) ?_
        refine y_iald E dX3_findFar_64 (m_r5 hA _ _) (by omega) ?_
        try simp (decide := true) only [upN_s, upN_n, upN_upN, upN_id, remT_5, remT_8]
        refine y_icmp_ge (tgt := 117) E dX3_findFar_65 (by decide) (by omega) (by omega) (fun h65 => ?_) (fun h65 => ?_)
        · refine y_iinc E dX3_findFar_117 (by rfl) ?_
          refine y_goto (tgt := 42) E dX3_findFar_120 (by decide) ?_
          refine iht htn f _ (by omega) (by omega) hSD hPR (fun j j0 j1 k k0 k1 => ?_) hg
          by_cases e : j = t
          · subst e
            cases k with
            | zero => exact hPR j j0 (by omega) 0 (by omega) k1
            | succ k =>
              obtain ⟨a, q, b, c, d⟩ := k1
              have h1 := hq q b.1 (by omega) c
              have h2 := hPR q b.1 (by omega) k (by omega) d
              omega
          · exact hPt j j0 (by omega) k k0 k1
        · have hs8 := hs8 (by omega)
          first | refine y_ald_n E dX3_findFar_68 (by rfl) ?_ | refine y_aload_n E dX3_findFar_68 (by rfl) ?_
          refine y_iload_n E dX3_findFar_69 (by rfl) ?_
          refine y_iload E dX3_findFar_70 (by rfl) ?_
          refine y_callV E dX3_findFar_72 lk_X3_213 (m_canSignal hA ?_ ?_ ?_) (by rfl) (m_o hA _ _) rfl (by decide) (by omega) (by omega) rfl (Nat.le_of_ble_eq_true rfl) ?_ (fun _ _ _ h => h.elim)
          · exact hS
          · first | omega | (simp (decide := true) only [upN_s, upN_n, upN_upN, upN_id, remT_5, remT_8] <;> omega)
          · first | omega | (simp (decide := true) only [upN_s, upN_n, upN_upN, upN_id, remT_5, remT_8] <;> omega)
          rintro _ _ ⟨rfl, rfl⟩
          try simp (decide := true) only [upN_s, upN_n, upN_upN, upN_id, remT_5, remT_8]
          refine y_ifd_eq (tgt := 111) E dX3_findFar_75 (by decide) (fun h75 => ?_) (fun h75 => ?_)
          · refine y_iinc E dX3_findFar_111 (by rfl) ?_
            refine y_goto (tgt := 56) E dX3_findFar_114 (by decide) ?_
            first
              | refine ihs (by omega) (upI f t (f s + 1)) (by omega) (by omega) (SD_up hSD ⟨t0, htn⟩ ⟨s0, by omega⟩ hn.2 h75 h93) (PR_up hPR (by omega)) (PR_up hPt (by omega)) (fun j hj => by rw [upI_n _ (by omega)]; exact hg j hj) (fun q q0 q1 q2 => ?_)
                have hqt : q ≠ t := fun e => q2.1 e.symm
                rw [upI_s, upI_n _ hqt]
                by_cases e : q = s
                · subst e
                  omega
                · have := hq q q0 (by omega) q2
                  omega
              | refine ihs (by omega) f (by omega) (by omega) hSD hPR hPt hg (fun q q0 q1 q2 => ?_)
                by_cases e : q = s
                · subst e
                  first | exact absurd q2 h75 | omega
                · exact hq q q0 (by omega) q2
          · first | refine y_ald_n E dX3_findFar_78 (by rfl) ?_ | refine y_aload_n E dX3_findFar_78 (by rfl) ?_
            refine y_get E dX3_findFar_79 fl_X3_25_X3 (m_o hA _ _) (by rfl) ?_
            refine y_iload E dX3_findFar_82 (by rfl) ?_
            refine y_iald E dX3_findFar_84 (m_r12 hA _ _) (by omega) ?_
            try simp (decide := true) only [upN_s, upN_n, upN_upN, upN_id, remT_5, remT_8]
            refine y_iconst E dX3_findFar_85 ?_
            refine y_iadd E dX3_findFar_86 ?_
            first | refine y_ald_n E dX3_findFar_87 (by rfl) ?_ | refine y_aload_n E dX3_findFar_87 (by rfl) ?_
            refine y_get E dX3_findFar_88 fl_X3_25_X3 (m_o hA _ _) (by rfl) ?_
            refine y_iload_n E dX3_findFar_91 (by rfl) ?_
            refine y_iald E dX3_findFar_92 (m_r12 hA _ _) (by omega) ?_
            try simp (decide := true) only [upN_s, upN_n, upN_upN, upN_id, remT_5, remT_8]
            refine y_icmp_ge (tgt := 111) E dX3_findFar_93 (by decide) (by omega) (by omega) (fun h93 => ?_) (fun h93 => ?_)
            · refine y_iinc E dX3_findFar_111 (by rfl) ?_
              refine y_goto (tgt := 56) E dX3_findFar_114 (by decide) ?_
              first
                | refine ihs (by omega) (upI f t (f s + 1)) (by omega) (by omega) (SD_up hSD ⟨t0, htn⟩ ⟨s0, by omega⟩ hn.2 h75 h93) (PR_up hPR (by omega)) (PR_up hPt (by omega)) (fun j hj => by rw [upI_n _ (by omega)]; exact hg j hj) (fun q q0 q1 q2 => ?_)
                  have hqt : q ≠ t := fun e => q2.1 e.symm
                  rw [upI_s, upI_n _ hqt]
                  by_cases e : q = s
                  · subst e
                    omega
                  · have := hq q q0 (by omega) q2
                    omega
                | refine ihs (by omega) f (by omega) (by omega) hSD hPR hPt hg (fun q q0 q1 q2 => ?_)
                  by_cases e : q = s
                  · subst e
                    first | exact absurd q2 h75 | omega
                  · exact hq q q0 (by omega) q2
            · first | refine y_ald_n E dX3_findFar_96 (by rfl) ?_ | refine y_aload_n E dX3_findFar_96 (by rfl) ?_
              refine y_get E dX3_findFar_97 fl_X3_25_X3 (m_o hA _ _) (by rfl) ?_
              refine y_iload_n E dX3_findFar_100 (by rfl) ?_
              first | refine y_ald_n E dX3_findFar_101 (by rfl) ?_ | refine y_aload_n E dX3_findFar_101 (by rfl) ?_
              refine y_get E dX3_findFar_102 fl_X3_25_X3 (m_o hA _ _) (by rfl) ?_
              refine y_iload E dX3_findFar_105 (by rfl) ?_
              refine y_iald E dX3_findFar_107 (m_r12 hA _ _) (by omega) ?_
              try simp (decide := true) only [upN_s, upN_n, upN_upN, upN_id, remT_5, remT_8]
              refine y_iconst E dX3_findFar_108 ?_
              refine y_iadd E dX3_findFar_109 ?_
              refine y_iast E dX3_findFar_110 (m_r12 hA _ _) (by omega) ?_
              refine y_heap (m_w12 hA) ?_
              try simp (decide := true) only [upN_s, upN_n, upN_upN, upN_id, remT_5, remT_8]
              refine y_iinc E dX3_findFar_111 (by rfl) ?_
              refine y_goto (tgt := 56) E dX3_findFar_114 (by decide) ?_
              first
                | refine ihs (by omega) (upI f t (f s + 1)) (by omega) (by omega) (SD_up hSD ⟨t0, htn⟩ ⟨s0, by omega⟩ hn.2 h75 h93) (PR_up hPR (by omega)) (PR_up hPt (by omega)) (fun j hj => by rw [upI_n _ (by omega)]; exact hg j hj) (fun q q0 q1 q2 => ?_)
                  have hqt : q ≠ t := fun e => q2.1 e.symm
                  rw [upI_s, upI_n _ hqt]
                  by_cases e : q = s
                  · subst e
                    omega
                  · have := hq q q0 (by omega) q2
                    omega
                | refine ihs (by omega) f (by omega) (by omega) hSD hPR hPt hg (fun q q0 q1 q2 => ?_)
                  by_cases e : q = s
                  · subst e
                    first | exact absurd q2 h75 | omega
                  · exact hq q q0 (by omega) q2
      refine y_iload_n E dX3_findFar_42 (by rfl) ?_
      first | refine y_ald_n E dX3_findFar_43 (by rfl) ?_ | refine y_aload_n E dX3_findFar_43 (by rfl) ?_
      refine y_get E dX3_findFar_44 fl_X3_13_X3 (m_o hA _ _) (by rfl) ?_
      refine y_bipush E dX3_findFar_47 (by decide) ?_
      refine y_iald E dX3_findFar_49 (m_r5 hA _ _) (by omega) ?_
      try simp (decide := true) only [upN_s, upN_n, upN_upN, upN_id, remT_5, remT_8]
      refine y_icmp_ge (tgt := 123) E dX3_findFar_50 (by decide) (by omega) (by omega) (fun h50 => ?_) (fun h50 => ?_)
      · refine y_iinc E dX3_findFar_123 (by rfl) ?_
        refine y_goto (tgt := 34) E dX3_findFar_126 (by decide) ?_
        refine ihr hr8 f _ _ (by omega) (by omega) hSD (fun j j0 j1 k k0 k1 => ?_) hg
        by_cases e : j < T 5 10
        · exact hPt j j0 (by omega) k k0 k1
        · cases k with
          | zero => exact hPR j j0 (by omega) 0 (by omega) k1
          | succ k => exact absurd k1.1.2 e
      · refine y_iconst E dX3_findFar_53 ?_
        refine y_istore E dX3_findFar_54 (Nat.le_of_ble_eq_true rfl) ?_
        exact inner (by omega) 0 f (by omega) (by omega) hSD hPR hPt hg (fun q q0 q1 => by omega)
    refine y_iload_n E dX3_findFar_34 (by rfl) ?_
    refine y_bipush E dX3_findFar_35 (by decide) ?_
    refine y_icmp_ge (tgt := 129) E dX3_findFar_37 (by decide) (by omega) (by omega) (fun h37 => ?_) (fun h37 => ?_)
    · refine y_return E F rfl dX3_findFar_129 (by omega) (by omega) ⟨rfl, by rw [SD_fin hn ho hSD (by rw [show r.toNat = 8 by omega] at hPR; exact hPR) hg]⟩
    · refine y_iconst E dX3_findFar_40 ?_
      refine y_istore_n (j := 3) E dX3_findFar_41 rfl (Nat.le_of_ble_eq_true rfl) ?_
      exact mid (by omega) 0 f _ (by omega) (by omega) hSD hPR (fun j j0 j1 => by omega) hg
  have init : ∀ i : Int, ∀ (f : Int → Int), 0 ≤ i → i ≤ 8 → (∀ j, 0 ≤ j → j < i → f j = if j = o then 0 else 1000) → (∀ j, ¬ (0 ≤ j ∧ j < i) → f j = T 12 j) → Y Γ Z 0 0 Q (mH A (upN T 12 f) G) 2 [some (.ref (A 0)), some (.int (iI o)), some (.int (iI i)), none, none] [] := by
    refine loopDown 8 ?_
    intro i ih f i0 i1 h1 h2
    refine y_iload_n E dX3_findFar_2 (by rfl) ?_
    refine y_bipush E dX3_findFar_3 (by decide) ?_
    refine y_icmp_ge (tgt := 32) E dX3_findFar_5 (by decide) (by omega) (by omega) (fun h5 => ?_) (fun h5 => ?_)
    · refine y_iconst E dX3_findFar_32 ?_
      refine y_istore_n (j := 2) E dX3_findFar_33 rfl (Nat.le_of_ble_eq_true rfl) ?_
      refine rounds 0 f _ _ (by omega) (by omega) (fun j j0 j1 => ?_) (fun j j0 j1 k k0 k1 => ?_) (fun j hj => h2 j (by omega))
      · have := h1 j j0 (by omega)
        by_cases e : j = o
        · rw [if_pos e] at this
          rw [this]
          exact ⟨by omega, by omega, fun _ => e⟩
        · rw [if_neg e] at this
          rw [this]
          exact ⟨by omega, by omega, fun q => by omega⟩
      · have e : k = 0 := by omega
        subst e
        have := h1 j j0 (by omega)
        rw [if_pos (show j = o from k1)] at this
        rw [this]
        exact Int.le_refl _
    · first | refine y_ald_n E dX3_findFar_8 (by rfl) ?_ | refine y_aload_n E dX3_findFar_8 (by rfl) ?_
      refine y_get E dX3_findFar_9 fl_X3_25_X3 (m_o hA _ _) (by rfl) ?_
      refine y_iload_n E dX3_findFar_12 (by rfl) ?_
      refine y_iload_n E dX3_findFar_13 (by rfl) ?_
      refine y_iload_n E dX3_findFar_14 (by rfl) ?_
      refine y_icmp_ne (tgt := 22) E dX3_findFar_15 (by decide) (by omega) (by omega) (fun h15 => ?_) (fun h15 => ?_)
      · refine y_sipush E dX3_findFar_22 (by decide) ?_
        refine y_iast E dX3_findFar_25 (m_r12 hA _ _) (by omega) ?_
        refine y_heap (m_w12 hA) ?_
        try simp (decide := true) only [upN_s, upN_n, upN_upN, upN_id, remT_5, remT_8]
        refine y_iinc E dX3_findFar_26 (by rfl) ?_
        refine y_goto (tgt := 2) E dX3_findFar_29 (by decide) ?_
        refine ih (by omega) (upI f i _) (by omega) (by omega) (fun j j0 j1 => ?_) (fun j hj => by rw [upI_n _ (by omega)]; exact h2 j (by omega))
        by_cases e : j = i
        · subst e
          rw [upI_s]
          first | rw [if_pos (by omega)] | rw [if_neg (by omega)]
        · rw [upI_n _ e]
          exact h1 j j0 (by omega)
      · refine y_iconst E dX3_findFar_18 ?_
        refine y_goto (tgt := 25) E dX3_findFar_19 (by decide) ?_
        refine y_iast E dX3_findFar_25 (m_r12 hA _ _) (by omega) ?_
        refine y_heap (m_w12 hA) ?_
        try simp (decide := true) only [upN_s, upN_n, upN_upN, upN_id, remT_5, remT_8]
        refine y_iinc E dX3_findFar_26 (by rfl) ?_
        refine y_goto (tgt := 2) E dX3_findFar_29 (by decide) ?_
        refine ih (by omega) (upI f i _) (by omega) (by omega) (fun j j0 j1 => ?_) (fun j hj => by rw [upI_n _ (by omega)]; exact h2 j (by omega))
        by_cases e : j = i
        · subst e
          rw [upI_s]
          first | rw [if_pos (by omega)] | rw [if_neg (by omega)]
        · rw [upI_n _ e]
          exact h1 j j0 (by omega)
  refine y_iconst E dX3_findFar_0 ?_
  refine y_istore_n (j := 2) E dX3_findFar_1 rfl (Nat.le_of_ble_eq_true rfl) ?_
  refine y_heap (show _ = mH A (upN T 12 (T 12)) G from by rw [upN_id]) (init 0 (T 12) (by omega) (by omega) (fun j j0 j1 => by omega) (fun j _ => rfl))
end Tw10
