/-! ===== a lens more, a tower more, another fog ===== -/
section Ad
variable {Γ : yG} {G : yH} {st a : Nat} {S : SA} {w : Int → Int}
def sLup (S : SA) (n q : Nat) : SA := (sTl S, sLl S, sSl S, sFg S, sTa S, fun m => if m = n then q else sLa S m)
def sTup (S : SA) (n q : Nat) : SA := (sTl S, sLl S, sSl S, sFg S, fun m => if m = n then q else sTa S m, sLa S)
theorem sLup_n {n q m : Nat} (h : m ≠ n) : sLa (sLup S n q) m = sLa S m := if_neg h
theorem sLup_s {n q : Nat} : sLa (sLup S n q) n = q := if_pos rfl
theorem sTup_n {n q m : Nat} (h : m ≠ n) : sTa (sTup S n q) m = sTa S m := if_neg h
theorem sTup_s {n q : Nat} : sTa (sTup S n q) n = q := if_pos rfl
theorem rg_up {n q : Nat} {f : Nat → Nat} : (List.range (n + 1)).map (fun m => if m = n then q else f m) = (List.range n).map f ++ [q] := by
  rw [List.range_succ, List.map_append]
  congr 1
  · apply List.map_congr_left
    intro k hk
    rw [List.mem_range] at hk
    exact if_neg (by omega)
  · simp
theorem lnL_up {v : Int → Int} {q : Nat} (h0 : 0 ≤ w 11) (h : v 11 = w 11 + 1) : lnL (sLup S (w 11).toNat q) v = lnL S w ++ [q] := by
  unfold lnL
  rw [h, show (w 11 + 1).toNat = (w 11).toNat + 1 by omega]
  exact rg_up
theorem twL_up {v : Int → Int} {q : Nat} (h0 : 0 ≤ w 10) (h : v 10 = w 10 + 1) : twL (sTup S (w 10).toNat q) v = twL S w ++ [q] := by
  unfold twL
  rw [h, show (w 10 + 1).toNat = (w 10).toNat + 1 by omega]
  exact rg_up
/-- one lens more -/
theorem isST_ladd (hB : gB Γ G) (h : isST Γ G st a S w) {G' : yH} {v : Int → Int} {q : Nat} (h10 : w 10 ≤ 8) (h11 : 0 ≤ w 11) (h12 : w 12 ≤ 12) (hL : LSW w) (hW : SW w) (hWn : ∀ k, 0 ≤ k → k < w 12 → 0 ≤ w (13 + k)) (hk : gK (· = (st, 2)) G G') (hl : isAL Γ G' (st, 2) (sLl S) (lnL S w ++ [q])) (hq : G q = some (some (st, 6), lnX v (w 11).toNat)) (hv : v 11 = w 11 + 1) (hvk : ∀ k, k ≠ 11 → (k < 89 + 3 * w 11 ∨ 89 + 3 * w 11 + 3 ≤ k) → v k = w k) : isST Γ G' st a (sLup S (w 11).toNat q) v := by
  obtain ⟨h1, h2, h3, h4, h5, h6, h7⟩ := h
  have e10 : v 10 = w 10 := hvk 10 (by omega) (by omega)
  have e12 : v 12 = w 12 := hvk 12 (by omega) (by omega)
  refine ⟨?_, ?_, ?_, ?_, ?_, fun u hu => ?_, fun m hm => ?_⟩
  · have := hk.at h1 (by simp)
    rw [this]
    unfold stE
    rw [hvk 0 (by omega) (by omega), hvk 1 (by omega) (by omega), hvk 2 (by omega) (by omega)]
    rfl
  · have : twL (sLup S (w 11).toNat q) v = twL S w := by unfold twL; rw [e10]; rfl
    rw [this]
    exact h2.kk hB hk (by simp)
  · rw [lnL_up h11 hv]
    exact hl
  · have : soL (sLup S (w 11).toNat q) v = soL S w := by
      unfold soL
      rw [e12]
      apply List.map_congr_left
      intro k hk
      rw [List.mem_range] at hk
      have a1 := hW k (by omega) (by omega)
      have a2 := hWn k (by omega) (by omega)
      rw [hvk (13 + (k : Int)) (by omega) (by omega), sLup_n (by omega)]
    rw [this]
    exact h4.kk hk (by simp)
  · have := hk.at h5 (by simp)
    rw [fgF_c (w := w) (fun k k0 k1 => hvk k (by omega) (by omega))]
    exact this
  · rw [e10] at hu
    have a1 := hL u (by omega) hu
    have : twX Γ (sLup S (w 11).toNat q) v u = twX Γ S w u := by
      have e : twX Γ (sLup S (w 11).toNat q) v u = twX Γ (sLup S (w 11).toNat q) w u := twX_c (fun j j0 j1 => hvk _ (by omega) (by omega))
      rw [e]
      unfold twX lnO
      by_cases e3 : tw w u 3 < 0
      · rw [if_pos e3, if_pos e3]
      · rw [if_neg e3, if_neg e3, sLup_n (by omega)]
    rw [this]
    exact hk.at (h6 u hu) (by simp)
  · rw [hv] at hm
    by_cases e : m = (w 11).toNat
    · rw [e, sLup_s]
      exact hk.at hq (by simp)
    · rw [sLup_n e, show lnX v m = lnX w m from lnX_c (fun j j0 j1 => hvk _ (by omega) (by omega))]
      exact hk.at (h7 m (by omega)) (by simp)
/-- one tower more -/
theorem isST_tadd (hB : gB Γ G) (h : isST Γ G st a S w) {G' : yH} {v : Int → Int} {q : Nat} (h10 : 0 ≤ w 10 ∧ w 10 < 8) (h12 : w 12 ≤ 12) (hk : gK (· = (st, 1)) G G') (hl : isAL Γ G' (st, 1) (sTl S) (twL S w ++ [q])) (hq : G q = some (some (st, 5), twX Γ S v (w 10).toNat)) (hv : v 10 = w 10 + 1) (hvk : ∀ k, k ≠ 10 → (k < 25 + 8 * w 10 ∨ 25 + 8 * w 10 + 8 ≤ k) → v k = w k) : isST Γ G' st a (sTup S (w 10).toNat q) v := by
  obtain ⟨h1, h2, h3, h4, h5, h6, h7⟩ := h
  have e11 : v 11 = w 11 := hvk 11 (by omega) (by omega)
  have e12 : v 12 = w 12 := hvk 12 (by omega) (by omega)
  refine ⟨?_, ?_, ?_, ?_, ?_, fun u hu => ?_, fun m hm => ?_⟩
  · have := hk.at h1 (by simp)
    rw [this]
    unfold stE
    rw [hvk 0 (by omega) (by omega), hvk 1 (by omega) (by omega), hvk 2 (by omega) (by omega)]
    rfl
  · rw [twL_up h10.1 hv]
    exact hl
  · have : lnL (sTup S (w 10).toNat q) v = lnL S w := by unfold lnL; rw [e11]; rfl
    rw [this]
    exact h3.kk hB hk (by simp)
  · have : soL (sTup S (w 10).toNat q) v = soL S w := by
      rw [soL_c (w := w) e12 (fun k k0 k1 => hvk _ (by omega) (by omega))]
      rfl
    rw [this]
    exact h4.kk hk (by simp)
  · have := hk.at h5 (by simp)
    rw [fgF_c (w := w) (fun k k0 k1 => hvk k (by omega) (by omega))]
    exact this
  · rw [hv] at hu
    have eS : ∀ x : Int → Int, twX Γ (sTup S (w 10).toNat q) x u = twX Γ S x u := fun x => rfl
    rw [eS]
    by_cases e : u = (w 10).toNat
    · rw [e, sTup_s]
      exact hk.at hq (by simp)
    · rw [sTup_n e, show twX Γ S v u = twX Γ S w u from twX_c (fun j j0 j1 => hvk _ (by omega) (by omega))]
      exact hk.at (h6 u (by omega)) (by simp)
  · rw [e11] at hm
    rw [show lnX v m = lnX w m from lnX_c (fun j j0 j1 => hvk _ (by omega) (by omega))]
    exact hk.at (h7 m hm) (by simp)
/-- another fog -/
theorem isST_fset (hB : gB Γ G) (h : isST Γ G st a S w) {v : Int → Int} {f : Int → Int} (hf : f = fgF v) (h10 : w 10 ≤ 8) (hv : ∀ k, (k < 3 ∨ 10 ≤ k) → v k = w k) : isST Γ (gset G (sFg S) (some (st, 4), aI 0 7 f)) st a S v ∧ gK (· = (st, 4)) G (gset G (sFg S) (some (st, 4), aI 0 7 f)) := by
  have hk : gK (· = (st, 4)) G (gset G (sFg S) (some (st, 4), aI 0 7 f)) := gK_w _ h.2.2.2.2.1 rfl
  obtain ⟨h1, h2, h3, h4, h5, h6, h7⟩ := h
  have e10 : v 10 = w 10 := hv 10 (by omega)
  have e11 : v 11 = w 11 := hv 11 (by omega)
  have e12 : v 12 = w 12 := hv 12 (by omega)
  refine ⟨⟨?_, ?_, ?_, ?_, ?_, fun u hu => ?_, fun m hm => ?_⟩, hk⟩
  · have := hk.at h1 (by simp)
    rw [this]
    unfold stE
    rw [hv 0 (by omega), hv 1 (by omega), hv 2 (by omega)]
  · have : twL S v = twL S w := by unfold twL; rw [e10]
    rw [this]
    exact h2.kk hB hk (by simp)
  · have : lnL S v = lnL S w := by unfold lnL; rw [e11]
    rw [this]
    exact h3.kk hB hk (by simp)
  · rw [soL_c e12 (fun k k0 k1 => hv _ (by omega))]
    exact h4.kk hk (by simp)
  · rw [← hf]
    exact gset_s _ _ _
  · rw [e10] at hu
    rw [show twX Γ S v u = twX Γ S w u from twX_c (fun j j0 j1 => hv _ (by omega))]
    exact hk.at (h6 u hu) (by simp)
  · rw [e11] at hm
    rw [show lnX v m = lnX w m from lnX_c (fun j j0 j1 => hv _ (by omega))]
    exact hk.at (h7 m hm) (by simp)
end Ad
