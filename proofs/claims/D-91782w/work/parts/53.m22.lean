set_option maxRecDepth 100000
theorem fp_fz {h h1 : AH} (a : fz_ h h1) : fp_ h h1 := ⟨a.1, a.2.1, a.2.2.1, fun p hp h3 => ⟨a.2.2.2.2.1 p (fun z => by subst z; exact hp (by decide)) h3, by rw [a.2.2.2.1]⟩, fun f hf => a.2.2.2.2.2 f (Classical.byContradiction fun z => hf (by
  rcases (show f = 36 ∨ f = 37 ∨ f = 38 ∨ f = 39 ∨ f = 40 ∨ f = 41 by omega) with e | e | e | e | e | e <;> subst e <;> decide))⟩
theorem fz_c {h h1 : AH} (a : fz_ h h1) {j : Nat} (hj : j < 6) : hp_I h1 (263 + j) = hp_I h (263 + j) := a.2.2.2.2.1 _ (by omega) (by omega)
theorem fz_RP {h h1 : AH} {nR sN : Nat} (f : fz_ h h1) (b : RP_ h nR sN) : RP_ h1 nR sN := by
  unfold RP_
  rw [f.2.2.2.2.2 42 (by omega), f.2.2.2.2.1 259 (by decide) (by decide)]
  exact b
theorem fz_ct {h h1 : AH} (a : fz_ h h1) : ct_ h1 = ct_ h := ct_e fun j hj => fz_c a hj
theorem fp_ct {h h1 : AH} (a : fp_ h h1) : ct_ h1 = ct_ h := ct_e fun j hj => fp_A a _ (SP_c hj).1 (SP_c hj).2
/-- cl_ok reads six rows alone -/
theorem cl_c {C C' : Nat → Nat → Int32} {nC sN : Nat} (h : cl_ok C nC sN) (e : ∀ j, j < 6 → C' j = C j) : cl_ok C' nC sN := by
  refine ⟨h.1, fun c hc => ?_⟩
  rw [e 0 (by decide), e 1 (by decide), e 2 (by decide), e 3 (by decide), e 4 (by decide), e 5 (by decide)]
  exact h.2 c hc
theorem fz_MS {h h1 : AH} {sN nC : Nat} (hS : MS_ h sN nC) (a : fz_ h h1) : MS_ h1 sN nC := by
  refine ⟨fz_m a hS.1, ?_⟩
  rw [a.2.2.2.2.2 4 (by omega), a.2.2.2.2.2 48 (by omega), a.2.2.2.2.1 243 (by decide) (by decide)]
  exact ⟨hS.2.1, hS.2.2.1, hS.2.2.2.1, (by rw [fz_ct a]; exact hS.2.2.2.2)⟩
