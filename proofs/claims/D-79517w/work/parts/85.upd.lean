/-! ===== State: what refuses; changes of the picture ===== -/
section Ag
/-- rows that agree but for the counts -/
def ag (w v : Int → Int) : Prop := ∀ k, 3 ≤ k → w k = v k
theorem ag_s {w v : Int → Int} (h : ag w v) : ag v w := fun k hk => (h k hk).symm
theorem ag_up {w : Int → Int} {k v : Int} (hk : k < 3) : ag (upI w k v) w := fun q hq => upI_n _ (by omega)
theorem ag_tw {w v : Int → Int} (h : ag w v) {t j : Int} (ht : 0 ≤ t) (hj : 0 ≤ j) : tw w t j = tw v t j := h _ (by omega)
theorem ag_lw {w v : Int → Int} (h : ag w v) {t j : Int} (ht : 0 ≤ t) (hj : 0 ≤ j) : lw w t j = lw v t j := h _ (by omega)
theorem ag_SH {w v : Int → Int} (h : ag w v) (hS : SH w) : SH v := SH_of (fun q h3 h4 => by rw [← h q h3]; exact SH_b hS q h3 h4)
theorem ag_pow {w v : Int → Int} (h : ag w v) {t : Int} (ht : 0 ≤ t) : powS w t = powS v t := by
  unfold powS
  rw [ag_tw h ht (by omega)]
  split
  · rfl
  · exact ag_lw h (by omega) (by omega)
theorem ag_cF {w v : Int → Int} (h : ag w v) {i : Int} (hi : 0 ≤ i) : cF w i = cF v i := sumI_c (fun k k0 k1 => by rw [h (3 + k / 10) (by omega)]) hi
theorem ag_cost {w v : Int → Int} (h : ag w v) {a b : Int} (ha : 0 ≤ a) (hb : 0 ≤ b) : costS w a b = costS v a b := by
  unfold costS
  rw [ag_cF h (i := b + 1) (by omega), ag_cF h (i := a + 1) (by omega), ag_cF h ha, ag_cF h hb]
theorem ag_rch {w v : Int → Int} (h : ag w v) (hS : SH w) {t p : Int} (ht : 0 ≤ t ∧ t < 8) (hp : 0 ≤ p) : rchP w t p ↔ rchP v t p := by
  have h1 := hS.t ht.1 ht.2
  unfold rchP
  rw [ag_cost h (a := tw w t 0) (by omega) hp, ag_pow h ht.1, ag_tw h ht.1 (j := 3) (by omega), ag_tw h ht.1 (j := 0) (by omega), ag_tw h ht.1 (j := 1) (by omega)]
theorem ag_mist {w v : Int → Int} (h : ag w v) (hS : SH w) {a b : Int} (ha : 0 ≤ a ∧ a < 8) (hb : 0 ≤ b ∧ b < 8) : mistP w a b ↔ mistP v a b := by
  unfold mistP alikeP
  rw [ag_tw h ha.1 (j := 7) (by omega), ag_tw h hb.1 (j := 7) (by omega), ag_tw h ha.1 (j := 6) (by omega), ag_tw h hb.1 (j := 6) (by omega)]
  constructor
  · rintro ⟨q, p, p0, p1, p2, p3⟩
    exact ⟨q, p, p0, p1, (ag_rch h hS ha p0).mp p2, (ag_rch h hS hb p0).mp p3⟩
  · rintro ⟨q, p, p0, p1, p2, p3⟩
    exact ⟨q, p, p0, p1, (ag_rch h hS ha p0).mpr p2, (ag_rch h hS hb p0).mpr p3⟩
theorem ag_pr {w v : Int → Int} (h : ag w v) (hS : SH w) {a b : Int} (ha : 0 ≤ a ∧ a < 8) (hb : 0 ≤ b ∧ b < 8) : prP w a b ↔ prP v a b := by
  unfold prP
  rw [ag_tw h ha.1 (j := 4) (by omega), ag_tw h hb.1 (j := 4) (by omega), ag_mist h hS ha hb]
theorem ag_mis {w v : Int → Int} (h : ag w v) (hS : SH w) : misS w = misS v := by
  have hn := hS.nt
  have h10 : w 10 = v 10 := h 10 (by omega)
  symm
  apply misS_eq
  rcases misS_ok hn.1 with ⟨h1, h2⟩ | ⟨a, h1, h2, h3, h4, h5, h6⟩
  · exact Or.inl ⟨h1, fun j k a b c q => h2 j k a b (by omega) ((ag_pr h hS (by omega) (by omega)).mpr q)⟩
  · exact Or.inr ⟨a, h1, h2, by omega, (ag_pr h hS (by omega) (by omega)).mp h4, fun k k1 k2 q => h5 k k1 k2 ((ag_pr h hS (by omega) (by omega)).mpr q), fun j k a b c d q => h6 j k a b c (by omega) ((ag_pr h hS (by omega) (by omega)).mpr q)⟩
theorem ag_UT {w v : Int → Int} (h : ag w v) (hU : UT w) : UT v := UT_c (h 10 (by omega)).symm (fun t t0 t1 => ⟨(ag_tw h t0 (by omega)).symm, (ag_tw h t0 (by omega)).symm⟩) hU
theorem ag_LS {w v : Int → Int} (h : ag w v) (hL : LSW w) : LSW v := fun t t0 t1 => by
  rw [← ag_tw h t0 (by omega), ← h 11 (by omega)]
  exact hL t t0 (by rw [h 10 (by omega)]; exact t1)
/-- the same cells with the same tags -/
def gM (G G' : yH) : Prop := ∀ q, (G' q).map Prod.fst = (G q).map Prod.fst
/-- .. and perhaps more cells -/
def gM1 (G G' : yH) : Prop := ∀ q t e, G q = some (t, e) → ∃ e', G' q = some (t, e')
theorem gM1_r (G : yH) : gM1 G G := fun q t e h => ⟨e, h⟩
theorem gM1_t {G G' G'' : yH} (h : gM1 G G') (g : gM1 G' G'') : gM1 G G'' := fun q t e a => by
  obtain ⟨e', b⟩ := h q t e a
  exact g q t e' b
theorem gM1_e {G G' : yH} (h : gExt G G') : gM1 G G' := fun q t e a => ⟨e, h q _ a⟩
theorem gM1_w {G : yH} {a : Nat} {t : yT} {e e' : yE} (h : G a = some (t, e)) : gM1 G (gset G a (t, e')) := fun q t2 e2 z => by
  by_cases d : q = a
  · subst d
    rw [h] at z
    cases z
    exact ⟨e', gset_s _ _ _⟩
  · exact ⟨e2, gs_n d z⟩
theorem gM_1 {G G' : yH} (h : gM G G') : gM1 G G' := fun q t e a => by
  have := h q
  rw [a] at this
  cases b : G' q with
  | none => rw [b] at this; cases this
  | some v =>
    rw [b] at this
    obtain ⟨t', e'⟩ := v
    cases this
    exact ⟨e', rfl⟩
theorem gM_r (G : yH) : gM G G := fun _ => rfl
theorem gM_t {G G' G'' : yH} (h : gM G G') (g : gM G' G'') : gM G G'' := fun q => (g q).trans (h q)
theorem gM_F {G G' : yH} (h : gM G G') {τ : Nat × Nat} (hF : gF τ G) : gF τ G' := fun q e z => by
  have := h q
  rw [z] at this
  cases b : G q with
  | none => rw [b] at this; cases this
  | some v =>
    rw [b] at this
    obtain ⟨t', e'⟩ := v
    cases this
    exact hF q e' b
theorem gM_O {G G' : yH} (h : gM G G') (hO : gOK G) : gOK G' := ⟨gM_F h hO.1, gM_F h hO.2⟩
theorem gM_n {G G' : yH} (h : gM G G') {q : Nat} (hq : G q = none) : G' q = none := by
  have := h q
  rw [hq] at this
  cases b : G' q with
  | none => rfl
  | some v => rw [b] at this; cases this
/-- what was there, as it is now -/
def dmr (G G' : yH) : yH := fun q => match G q with
  | some _ => G' q
  | none => none
theorem dmr_e {G G' : yH} : gExt (dmr G G') G' := fun q v e => by
  unfold dmr at e
  split at e
  · exact e
  · cases e
theorem dmr_M {G G' : yH} (h : gM1 G G') : gM G (dmr G G') := fun q => by
  unfold dmr
  cases b : G q with
  | none => rfl
  | some v =>
    obtain ⟨t, e⟩ := v
    obtain ⟨e', h2⟩ := h q t e b
    simp only [h2]
    rfl
theorem dmr_K {P : Nat × Nat → Prop} {G G' : yH} (h : gK P G G') : gK P G (dmr G G') := fun q t e a b => by
  unfold dmr
  simp only [a]
  exact h q t e a b
theorem dmr_at {G G' : yH} {q : Nat} {v w : yT × yE} (h : G q = some v) (g : G' q = some w) : dmr G G' q = some w := by
  unfold dmr
  simp only [h]
  exact g
end Ag
section Up
variable {Γ : yG} {G : yH} {st a : Nat} {S : SA} {w : Int → Int}
theorem twX_c {w v : Int → Int} {t : Nat} (h : ∀ j, 0 ≤ j → j < 8 → tw v t j = tw w t j) : twX Γ S v t = twX Γ S w t := by
  unfold twX lnO
  rw [h 0 (by omega) (by omega), h 1 (by omega) (by omega), h 2 (by omega) (by omega), h 3 (by omega) (by omega), h 4 (by omega) (by omega), h 5 (by omega) (by omega), h 6 (by omega) (by omega), h 7 (by omega) (by omega)]
theorem lnX_c {w v : Int → Int} {l : Nat} (h : ∀ j, 0 ≤ j → j < 3 → lw v l j = lw w l j) : lnX v l = lnX w l := by
  unfold lnX
  rw [h 0 (by omega) (by omega), h 1 (by omega) (by omega), h 2 (by omega) (by omega)]
theorem soL_c {w v : Int → Int} (h12 : v 12 = w 12) (h : ∀ k : Int, 0 ≤ k → k < w 12 → v (13 + k) = w (13 + k)) : soL S v = soL S w := by
  unfold soL
  rw [h12]
  apply List.map_congr_left
  intro k hk
  rw [List.mem_range] at hk
  rw [h k (by omega) (by omega)]
theorem twX_ne {w : Int → Int} {t u : Nat} (ht : t < 100) (hu : u < 100) (h : t ≠ u) {x y : yT} : (x, twX Γ S w t) ≠ (y, twX Γ S w u) := by
  intro e
  have e2 := congrArg Prod.snd e
  unfold twX twE at e2
  simp only [Sum.inr.injEq, Prod.mk.injEq, List.cons.injEq, Value.int.injEq] at e2
  have := (iI_inj (by omega) (by omega)).mp e2.2.1
  omega
/-- one tower changes -/
theorem isST_tset (hB : gB Γ G) (h : isST Γ G st a S w) (hS : SH w) {t : Nat} (ht : (t : Int) < w 10) {v : Int → Int} (hv : ∀ k, (k < 25 + 8 * (t : Int) ∨ 25 + 8 * (t : Int) + 8 ≤ k) → v k = w k) : isST Γ (gset G (sTa S t) (some (st, 5), twX Γ S v t)) st a S v ∧ gK (· = (st, 5)) G (gset G (sTa S t) (some (st, 5), twX Γ S v t)) ∧ gM1 G (gset G (sTa S t) (some (st, 5), twX Γ S v t)) := by
  have h8 := hS.nt
  have h12 := hS.ns
  have hk : gK (· = (st, 5)) G (gset G (sTa S t) (some (st, 5), twX Γ S v t)) := gK_w _ (isST_t h ht) rfl
  obtain ⟨h1, h2, h3, h4, h5, h6, h7⟩ := h
  have e10 : v 10 = w 10 := hv 10 (by omega)
  have e11 : v 11 = w 11 := hv 11 (by omega)
  have e12 : v 12 = w 12 := hv 12 (by omega)
  refine ⟨⟨?_, ?_, ?_, ?_, ?_, fun u hu => ?_, fun l hl => ?_⟩, hk, gM1_w (h6 t ht)⟩
  · have := hk.at h1 (by simp)
    rw [this]
    unfold stE
    rw [hv 0 (by omega), hv 1 (by omega), hv 2 (by omega)]
  · have : twL S v = twL S w := by unfold twL; rw [e10]
    rw [this]
    exact h2.kk hB hk (by simp)
  · have : lnL S v = lnL S w := by unfold lnL; rw [e11]
    rw [this]
    exact h3.kk hB hk (by simp)
  · rw [soL_c e12 (fun k k0 k1 => hv _ (by omega))]
    exact h4.kk hk (by simp)
  · have := hk.at h5 (by simp)
    rw [this, fgF_c (fun k k0 k1 => hv k (by omega))]
  · rw [e10] at hu
    by_cases e : u = t
    · subst e
      exact gset_s _ _ _
    · rw [show twX Γ S v u = twX Γ S w u from twX_c (fun j j0 j1 => hv _ (by omega))]
      exact gs_n (g_ne (h6 u hu) (h6 t ht) (twX_ne (by omega) (by omega) e)) (h6 u hu)
  · rw [e11] at hl
    rw [show lnX v l = lnX w l from lnX_c (fun j j0 j1 => hv _ (by omega))]
    exact hk.at (h7 l hl) (by simp)
/-- one lens changes -/
theorem isST_lset (hB : gB Γ G) (h : isST Γ G st a S w) (hS : SH w) {l : Nat} (hl : (l : Int) < w 11) {v : Int → Int} (hv : ∀ k, (k < 89 + 3 * (l : Int) ∨ 89 + 3 * (l : Int) + 3 ≤ k) → v k = w k) : isST Γ (gset G (sLa S l) (some (st, 6), lnX v l)) st a S v ∧ gK (· = (st, 6)) G (gset G (sLa S l) (some (st, 6), lnX v l)) ∧ gM1 G (gset G (sLa S l) (some (st, 6), lnX v l)) := by
  have h8 := hS.nt
  have h12 := hS.ns
  have h11 := hS.nl
  have hk : gK (· = (st, 6)) G (gset G (sLa S l) (some (st, 6), lnX v l)) := gK_w _ (isST_l h hl) rfl
  obtain ⟨h1, h2, h3, h4, h5, h6, h7⟩ := h
  have e10 : v 10 = w 10 := hv 10 (by omega)
  have e11 : v 11 = w 11 := hv 11 (by omega)
  have e12 : v 12 = w 12 := hv 12 (by omega)
  refine ⟨⟨?_, ?_, ?_, ?_, ?_, fun u hu => ?_, fun m hm => ?_⟩, hk, gM1_w (h7 l hl)⟩
  · have := hk.at h1 (by simp)
    rw [this]
    unfold stE
    rw [hv 0 (by omega), hv 1 (by omega), hv 2 (by omega)]
  · have : twL S v = twL S w := by unfold twL; rw [e10]
    rw [this]
    exact h2.kk hB hk (by simp)
  · have : lnL S v = lnL S w := by unfold lnL; rw [e11]
    rw [this]
    exact h3.kk hB hk (by simp)
  · rw [soL_c e12 (fun k k0 k1 => hv _ (by omega))]
    exact h4.kk hk (by simp)
  · have := hk.at h5 (by simp)
    rw [this, fgF_c (fun k k0 k1 => hv k (by omega))]
  · rw [e10] at hu
    rw [show twX Γ S v u = twX Γ S w u from twX_c (fun j j0 j1 => hv _ (by omega))]
    exact hk.at (h6 u hu) (by simp)
  · rw [e11] at hm
    by_cases e : m = l
    · subst e
      exact gset_s _ _ _
    · rw [show lnX v m = lnX w m from lnX_c (fun j j0 j1 => hv _ (by omega))]
      refine gs_n (g_ne (h7 m hm) (h7 l hl) ?_) (h7 m hm)
      intro z
      have e2 := congrArg Prod.snd z
      unfold lnX lnE at e2
      simp only [Sum.inr.injEq, Prod.mk.injEq, List.cons.injEq, Value.int.injEq] at e2
      have := (iI_inj (by omega) (by omega)).mp e2.2.1
      omega
/-- counts change -/
theorem isST_cset (hB : gB Γ G) (h : isST Γ G st a S w) (hS : SH w) {v : Int → Int} (hv : ag v w) : isST Γ (gset G a (some (st, 0), stE S v)) st a S v ∧ gK (· = (st, 0)) G (gset G a (some (st, 0), stE S v)) ∧ gM1 G (gset G a (some (st, 0), stE S v)) := by
  have h8 := hS.nt
  have h12 := hS.ns
  have hk : gK (· = (st, 0)) G (gset G a (some (st, 0), stE S v)) := gK_w _ h.1 rfl
  obtain ⟨h1, h2, h3, h4, h5, h6, h7⟩ := h
  have e10 : v 10 = w 10 := hv 10 (by omega)
  have e11 : v 11 = w 11 := hv 11 (by omega)
  have e12 : v 12 = w 12 := hv 12 (by omega)
  refine ⟨⟨gset_s _ _ _, ?_, ?_, ?_, ?_, fun u hu => ?_, fun m hm => ?_⟩, hk, gM1_w h1⟩
  · have : twL S v = twL S w := by unfold twL; rw [e10]
    rw [this]
    exact h2.kk hB hk (by simp)
  · have : lnL S v = lnL S w := by unfold lnL; rw [e11]
    rw [this]
    exact h3.kk hB hk (by simp)
  · rw [soL_c e12 (fun k k0 k1 => hv _ (by omega))]
    exact h4.kk hk (by simp)
  · have := hk.at h5 (by simp)
    rw [this, fgF_c (fun k k0 k1 => hv k (by omega))]
  · rw [e10] at hu
    rw [show twX Γ S v u = twX Γ S w u from twX_c (fun j j0 j1 => hv _ (by omega))]
    exact hk.at (h6 u hu) (by simp)
  · rw [e11] at hm
    rw [show lnX v m = lnX w m from lnX_c (fun j j0 j1 => hv _ (by omega))]
    exact hk.at (h7 m hm) (by simp)
end Up
