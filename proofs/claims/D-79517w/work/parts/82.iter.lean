/-! ===== going through a list ===== -/
section It
/-- a contract with a weaker end -/
theorem Ct_mono {Γ : yG} {y : MethodName} {cc : ByteArray} {nL : Nat} {ret : Option FieldType} {L mc ms : Nat} {args : List Value} {G : yH} {Post Post' : Option Value → yH → Prop} {PX PX' : String → yH → Prop} (h : Ct Γ y cc nL ret L mc ms args G Post PX) (hP : ∀ v G', Post v G' → Post' v G') (hX : ∀ E G', PX E G' → PX' E G') : Ct Γ y cc nL ret L mc ms args G Post' PX' := by
  refine MetFree.mono h (fun _ _ q => q) (fun _ _ _ _ _ q => q) (fun a s o t _ q => ?_)
  rcases q with ⟨⟨⟨v, G', h1, h2, h3⟩, h4⟩, h5⟩ | ⟨q, h1, E, ce, L, ⟨⟨G', h2, h3⟩, h4⟩, h5⟩
  · exact Or.inl ⟨⟨⟨v, G', h1, hP v G' h2, h3⟩, h4⟩, h5⟩
  · exact Or.inr ⟨q, h1, E, ce, L, ⟨⟨G', hX E G' h2, h3⟩, h4⟩, h5⟩
/-- an iterator it of the list a of the elements xs (cells tagged τ), at the place i -/
def isIT (Γ : yG) (G : yH) (it a : Nat) (τ : Nat × Nat) (xs : List Nat) (i : Nat) : Prop := ∃ (mc : Int32) (e cap : Nat) (f : Nat → Option Nat) (te : yT) (l : Int), G it = some (some yT0, itE a i l mc) ∧ G a = some (some τ, alE mc e xs.length) ∧ G e = some (te, aR 5 cap f) ∧ xs.length ≤ cap ∧ cap ≤ 15 ∧ (∀ i, i < xs.length → f i = xs[i]?) ∧ ((te = none ∧ e = yad Γ 3) ∨ te = some τ)
theorem isIT.kk {Γ : yG} {P : Nat × Nat → Prop} {G G' : yH} {it a : Nat} {τ : Nat × Nat} {xs : List Nat} {i : Nat} (h : isIT Γ G it a τ xs i) (hk : gK P G G') (h0 : ¬ P yT0) (hP : ¬ P τ) : isIT Γ G' it a τ xs i := by
  obtain ⟨mc, e, cap, f, te, l, h1, h2, h3, h4, h5, h6, h7⟩ := h
  refine ⟨mc, e, cap, f, te, l, hk.at h1 h0, hk.at h2 hP, ?_, h4, h5, h6, h7⟩
  rcases h7 with ⟨rfl, -⟩ | rfl
  · exact hk.ro h3
  · exact hk.at h3 hP
theorem isIT.e {Γ : yG} {G G' : yH} {it a : Nat} {τ : Nat × Nat} {xs : List Nat} {i : Nat} (h : isIT Γ G it a τ xs i) (hk : gExt G G') : isIT Γ G' it a τ xs i := h.kk (gK_e (P := fun _ => False) hk) id id
theorem isAL.e {Γ : yG} {G G' : yH} {a : Nat} {τ : Nat × Nat} {xs : List Nat} (hB : gB Γ G) (h : isAL Γ G τ a xs) (hk : gExt G G') : isAL Γ G' τ a xs := h.kk hB (gK_e (P := fun _ => False) hk) id
theorem isST.e {Γ : yG} {G G' : yH} {st a : Nat} {S : SA} {w : Int → Int} (hB : gB Γ G) (h : isST Γ G st a S w) (hk : gExt G G') : isST Γ G' st a S w := h.kk hB (gK_e (P := fun _ => False) hk) (fun _ => id)
theorem isIT.c {Γ : yG} {G : yH} {it a : Nat} {τ : Nat × Nat} {xs : List Nat} {i : Nat} (h : isIT Γ G it a τ xs i) : ∃ fs, G it = some (some yT0, .inr (11, fs)) := by
  obtain ⟨mc, e, cap, f, te, l, h1, -⟩ := h
  exact ⟨_, h1⟩
theorem isAL.c {Γ : yG} {G : yH} {τ : Nat × Nat} {a : Nat} {xs : List Nat} (h : isAL Γ G τ a xs) : ∃ fs, G a = some (some τ, .inr (8, fs)) := by
  obtain ⟨mc, e, cap, f, te, h1, -⟩ := h
  exact ⟨_, h1⟩
theorem isLL.c {G : yH} {τ : Nat × Nat} {a : Nat} {xs : List (Option Nat)} (h : isLL G τ a xs) : ∃ fs, G a = some (some τ, .inr (9, fs)) := by
  obtain ⟨mc, ns, h1, -⟩ := h
  exact ⟨_, h1⟩
theorem isBS.c {G : yH} {τ : Nat × Nat} {a : Nat} {P : Nat → Bool} (h : isBS G τ a P) : ∃ fs, G a = some (some τ, .inr (13, fs)) := by
  obtain ⟨q, f, u, y, h1, -⟩ := h
  exact ⟨_, h1⟩
theorem twL_len (S : SA) (w : Int → Int) : (twL S w).length = (w 10).toNat := by simp [twL]
theorem lnL_len (S : SA) (w : Int → Int) : (lnL S w).length = (w 11).toNat := by simp [lnL]
theorem twL_at {S : SA} {w : Int → Int} {i : Nat} (h : (i : Int) < w 10) : (twL S w)[i]? = some (sTa S i) := by
  unfold twL
  rw [List.getElem?_map, List.getElem?_range (by omega)]
  rfl
theorem lnL_at {S : SA} {w : Int → Int} {i : Nat} (h : (i : Int) < w 11) : (lnL S w)[i]? = some (sLa S i) := by
  unfold lnL
  rw [List.getElem?_map, List.getElem?_range (by omega)]
  rfl
variable {Γ : yG} {G : yH}
set_option maxHeartbeats 4000000
theorem c_it_new {a : Nat} {τ : Nat × Nat} {xs : List Nat} (hB : gB Γ G) (h : isAL Γ G τ a xs) : Ct_J2_iterator Γ 2 1 4 [.ref a] G (fun r G' => ∃ it vv, r = some (.ref it) ∧ G it = none ∧ isIT Γ G' it a τ xs 0 ∧ G' = gset G it (some yT0, vv)) noX := by
  obtain ⟨mc, e, cap, f, te, h1, h2, h3, h4, h5, h6⟩ := h
  refine Ct_mono (c_J2_iterator (τ := yT0) h1) ?_ (fun _ _ q => q)
  rintro r G' ⟨it, g1, rfl, rfl⟩
  have hn1 : a ≠ it := g_nn h1 g1
  have hn2 : e ≠ it := g_nn h2 g1
  refine ⟨it, _, rfl, g1, ⟨mc, e, cap, f, te, -1, gset_s _ _ _, gs_n hn1 h1, gs_n hn2 h2, h3, h4, h5, ?_⟩, rfl⟩
  rcases h6 with ⟨-, he⟩ | ⟨he, -⟩
  · subst he
    have := hB.1
    rw [this] at h2
    cases h2
    exact Or.inl ⟨rfl, rfl⟩
  · exact Or.inr he
theorem c_it_has {it a : Nat} {τ : Nat × Nat} {xs : List Nat} {i : Nat} (h : isIT Γ G it a τ xs i) (hi : i ≤ xs.length) : Ct_J24_hasNext Γ 1 0 0 [.ref it] G (fun r G' => r = some (.int (iI (b2i (dB (i < xs.length))))) ∧ G' = G) noX := by
  obtain ⟨mc, e, cap, f, te, l, h1, h2, h3, h4, h5, h6, h7⟩ := h
  refine Ct_mono (c_J24_hasNext h1 h2 (by omega) (by omega)) ?_ (fun _ _ q => q)
  rintro r G' ⟨rfl, rfl⟩
  refine ⟨?_, rfl⟩
  by_cases e : i < xs.length
  · rw [dB_t e, decide_eq_true (by omega)]
  · rw [dB_f e, decide_eq_false (by omega)]
theorem c_it_next {it a : Nat} {τ : Nat × Nat} {xs : List Nat} {i x : Nat} (h : isIT Γ G it a τ xs i) (hx : xs[i]? = some x) : Ct_J24_next Γ 2 0 0 [.ref it] G (fun r G' => r = some (.ref x) ∧ isIT Γ G' it a τ xs (i + 1) ∧ ∃ v, G' = gset G it (some yT0, v)) noX := by
  obtain ⟨mc, e, cap, f, te, l, h1, h2, h3, h4, h5, h6, h7⟩ := h
  have hi : i < xs.length := (List.getElem?_eq_some_iff.mp hx).1
  refine Ct_mono (c_J24_next h1 h2 h3 (by omega)) ?_ (fun _ _ q => q)
  rintro r G' ⟨rfl, rfl⟩
  have e1 : f ((i : Int).toNat) = some x := by rw [Int.toNat_natCast, h6 i hi, hx]
  refine ⟨by rw [e1]; rfl, ⟨mc, e, cap, f, te, i, gset_s _ _ _, gs_n (g_ne h2 h1 (by simp [alE, itE])) h2, gs_n (g_ne h3 h1 (by simp [aR, itE])) h3, h4, h5, h6, h7⟩, _, rfl⟩
end It
