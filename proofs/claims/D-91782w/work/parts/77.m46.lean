set_option maxRecDepth 100000
/-- an object of a class that can be cast -/
def KO_ (h : AH) (p : Nat) (to : String) : Prop := ∃ ci C T N, hp_K h p = (ci, 0) ∧ ci < 100 ∧ clA[ci]? = some (C, T, N) ∧ Cond.castable C to ∈ nw_all
theorem v_castU {G : Gv} {d : Nat} {own nm : String} {cc : ByteArray} {nL : Nat} {ret : Option FieldType} {mc ms : Nat} {Q : Option Value → AH → Prop} {pc : Nat} {l : List (Nat × Value)} {st : List Value} {h : AH} {idx p : Nat} {to : String} (hK : KO_ h p to) (hcl : Cond.classLink own idx to ∈ lw_all) (hdg : decode cc pc = .ok (.checkcast idx, 3)) (kk : Vv G d own nm cc nL ret mc ms Q (pc + 3) l (.ref p :: st) h) : Vv G d own nm cc nL ret mc ms Q pc l (.ref p :: st) h := by
  obtain ⟨ci, C, T, N, e1, e2, e3, e4⟩ := hK
  exact v_cast e1 e2 e3 e4 hcl hdg kk
theorem in_pred {x : Int32} {n : Nat} (hn : n < 2 ^ 31) : (0 ≤ x ∧ x ≤ nI n - 1) ↔ (0 ≤ x ∧ x < nI n) := by
  rcases n with _ | m
  · constructor
    · rintro ⟨h1, h2⟩
      exact absurd (Int32.le_trans h1 h2) (by decide)
    · rintro ⟨h1, h2⟩
      exact absurd (Int32.lt_of_le_of_lt h1 h2) (by decide)
  · rw [nI_pred]
    constructor
    · rintro ⟨h1, h2⟩
      obtain ⟨k, hk, rfl⟩ := nI_rngE ⟨h1, h2⟩ (by omega)
      exact ⟨h1, (nI_ltI (by omega) hn).mpr (by omega)⟩
    · rintro ⟨h1, h2⟩
      obtain ⟨k, hk, rfl⟩ := nI_rng ⟨h1, h2⟩ hn
      exact ⟨h1, (nI_leI (by omega) (by omega)).mpr (by omega)⟩
theorem in_pred2 {x : Int32} {n : Nat} (hn : n < 2 ^ 30) : (0 ≤ x ∧ x ≤ 2 * nI n - 1) ↔ (0 ≤ x ∧ x < 2 * nI n) := by
  rw [nI_2]; exact in_pred (by omega)

/-- a lead, a move, a control in the heap -/
def LE_ (h : AH) (q : Nat) (A : Nat → Int32) (k : Nat) : Prop := hp_K h q = (5, 0) ∧ hp_I h q 0 = A (1020 + 4 * k) ∧ hp_I h q 1 = A (1020 + 4 * k + 1) ∧ hp_I h q 2 = A (1020 + 4 * k + 2) ∧ hp_I h q 3 = A (1020 + 4 * k + 3)
def MO_ (h : AH) (q : Nat) (A : Nat → Int32) (k : Nat) : Prop := hp_K h q = (6, 0) ∧ hp_I h q 0 = A (4680 + 5 * k) ∧ hp_I h q 1 = A (4680 + 5 * k + 1) ∧ hp_I h q 2 = A (4680 + 5 * k + 4) ∧ hp_I h q 3 = A (4680 + 5 * k + 2) ∧ hp_I h q 4 = A (4680 + 5 * k + 3)
def CL_ (h : AH) (q : Nat) (C : Nat → Nat → Int32) (k : Nat) : Prop := (hp_I h q 0 = C 3 k ∧ hp_I h q 1 = C 4 k ∧ hp_I h q 2 = C 5 k) ∧ ((hp_K h q = (22, 0) ∧ C 0 k = 0 ∧ hp_I h q 4 = C 1 k) ∨ (hp_K h q = (23, 0) ∧ C 0 k = 1 ∧ hp_I h q 4 = C 2 k) ∨ (hp_K h q = (24, 0) ∧ C 0 k = 2 ∧ hp_I h q 4 = C 1 k ∧ hp_I h q 5 = C 2 k))
/-- THE SITTING AT b TELLS THE ROW A -/
def SI_ (h : AH) (b : Nat) (A : Nat → Int32) : Prop := (hp_K h b = (2, 0)) ∧ (hp_R h b 0 = some (b + 1)) ∧ (hp_R h b 1 = some (b + 2)) ∧ (hp_R h b 2 = some (b + 3)) ∧ (hp_R h b 3 = some (b + 4)) ∧ (hp_R h b 4 = some (b + 14)) ∧ (hp_R h b 5 = some (b + 33)) ∧ (hp_R h b 6 = some (b + 52)) ∧ (hp_R h b 7 = some (b + 54)) ∧ (hp_R h b 8 = some (b + 56)) ∧ (hp_K h (b + 1) = (100, 100)) ∧ (hp_K h (b + 2) = (100, 9)) ∧ (hp_K h (b + 3) = (100, 9)) ∧ (hp_K h (b + 56) = (100, 8)) ∧ (hp_K h (b + 4) = (104, 9)) ∧ (∀ p, p < 9 → hp_R h (b + 4) p = some (b + 5 + p)) ∧ (∀ p, p < 9 → hp_K h (b + 5 + p) = (100, 100)) ∧ (hp_K h (b + 14) = (104, 18)) ∧ (∀ p, p < 18 → hp_R h (b + 14) p = some (b + 15 + p)) ∧ (∀ p, p < 18 → hp_K h (b + 15 + p) = (100, 100)) ∧ (hp_K h (b + 33) = (104, 18)) ∧ (∀ p, p < 18 → hp_R h (b + 33) p = some (b + 34 + p)) ∧ (∀ p, p < 18 → hp_K h (b + 34 + p) = (100, 100)) ∧ (∀ t, t < 100 → hp_I h (b + 1) t = A t) ∧ (∀ p, p < 9 → hp_I h (b + 2) p = A (100 + p)) ∧ (∀ p, p < 9 → hp_I h (b + 3) p = A (110 + p)) ∧ (∀ p, p < 9 → ∀ t, t < 100 → hp_I h (b + 5 + p) t = A (120 + 100 * p + t)) ∧ (∀ p, p < 18 → ∀ t, t < 100 → hp_I h (b + 15 + p) t = A (1070 + 100 * p + t)) ∧ (∀ p, p < 18 → ∀ t, t < 100 → hp_I h (b + 34 + p) t = A (2870 + 100 * p + t)) ∧ (∀ k, k < 8 → hp_I h (b + 56) k = A (4670 + k)) ∧ (hp_I h b 9 = A 4881) ∧ (∃ D c f, AL_ h (b + 52) D c (nLed A) f ∧ ∀ k, k < nLed A → LE_ h (f k) A k) ∧ (∃ D c f, AL_ h (b + 54) D c (nMov A) f ∧ ∀ k, k < nMov A → MO_ h (f k) A k)
theorem si_K {h : AH} {b : Nat} {A : Nat → Int32} (hs : SI_ h b A) : hp_K h b = (2, 0) := hs.1
theorem si_Rlight {h : AH} {b : Nat} {A : Nat → Int32} (hs : SI_ h b A) : hp_R h b 0 = some (b + 1) := hs.2.1
theorem si_Rneed {h : AH} {b : Nat} {A : Nat → Int32} (hs : SI_ h b A) : hp_R h b 1 = some (b + 2) := hs.2.2.1
theorem si_Rfirm {h : AH} {b : Nat} {A : Nat → Int32} (hs : SI_ h b A) : hp_R h b 2 = some (b + 3) := hs.2.2.2.1
theorem si_Reyes {h : AH} {b : Nat} {A : Nat → Int32} (hs : SI_ h b A) : hp_R h b 3 = some (b + 4) := hs.2.2.2.2.1
theorem si_Rseems {h : AH} {b : Nat} {A : Nat → Int32} (hs : SI_ h b A) : hp_R h b 4 = some (b + 14) := hs.2.2.2.2.2.1
theorem si_Rtruly {h : AH} {b : Nat} {A : Nat → Int32} (hs : SI_ h b A) : hp_R h b 5 = some (b + 33) := hs.2.2.2.2.2.2.1
theorem si_Rleads {h : AH} {b : Nat} {A : Nat → Int32} (hs : SI_ h b A) : hp_R h b 6 = some (b + 52) := hs.2.2.2.2.2.2.2.1
theorem si_Rmoves {h : AH} {b : Nat} {A : Nat → Int32} (hs : SI_ h b A) : hp_R h b 7 = some (b + 54) := hs.2.2.2.2.2.2.2.2.1
theorem si_Rspots {h : AH} {b : Nat} {A : Nat → Int32} (hs : SI_ h b A) : hp_R h b 8 = some (b + 56) := hs.2.2.2.2.2.2.2.2.2.1
theorem si_light {h : AH} {b : Nat} {A : Nat → Int32} (hs : SI_ h b A) : hp_K h (b + 1) = (100, 100) := hs.2.2.2.2.2.2.2.2.2.2.1
theorem si_need {h : AH} {b : Nat} {A : Nat → Int32} (hs : SI_ h b A) : hp_K h (b + 2) = (100, 9) := hs.2.2.2.2.2.2.2.2.2.2.2.1
theorem si_firm {h : AH} {b : Nat} {A : Nat → Int32} (hs : SI_ h b A) : hp_K h (b + 3) = (100, 9) := hs.2.2.2.2.2.2.2.2.2.2.2.2.1
theorem si_spots {h : AH} {b : Nat} {A : Nat → Int32} (hs : SI_ h b A) : hp_K h (b + 56) = (100, 8) := hs.2.2.2.2.2.2.2.2.2.2.2.2.2.1
theorem si_eyes {h : AH} {b : Nat} {A : Nat → Int32} (hs : SI_ h b A) : hp_K h (b + 4) = (104, 9) := hs.2.2.2.2.2.2.2.2.2.2.2.2.2.2.1
theorem si_eyesR {h : AH} {b : Nat} {A : Nat → Int32} (hs : SI_ h b A) : ∀ p, p < 9 → hp_R h (b + 4) p = some (b + 5 + p) := hs.2.2.2.2.2.2.2.2.2.2.2.2.2.2.2.1
theorem si_eyesK {h : AH} {b : Nat} {A : Nat → Int32} (hs : SI_ h b A) : ∀ p, p < 9 → hp_K h (b + 5 + p) = (100, 100) := hs.2.2.2.2.2.2.2.2.2.2.2.2.2.2.2.2.1
theorem si_seems {h : AH} {b : Nat} {A : Nat → Int32} (hs : SI_ h b A) : hp_K h (b + 14) = (104, 18) := hs.2.2.2.2.2.2.2.2.2.2.2.2.2.2.2.2.2.1
theorem si_seemsR {h : AH} {b : Nat} {A : Nat → Int32} (hs : SI_ h b A) : ∀ p, p < 18 → hp_R h (b + 14) p = some (b + 15 + p) := hs.2.2.2.2.2.2.2.2.2.2.2.2.2.2.2.2.2.2.1
theorem si_seemsK {h : AH} {b : Nat} {A : Nat → Int32} (hs : SI_ h b A) : ∀ p, p < 18 → hp_K h (b + 15 + p) = (100, 100) := hs.2.2.2.2.2.2.2.2.2.2.2.2.2.2.2.2.2.2.2.1
theorem si_truly {h : AH} {b : Nat} {A : Nat → Int32} (hs : SI_ h b A) : hp_K h (b + 33) = (104, 18) := hs.2.2.2.2.2.2.2.2.2.2.2.2.2.2.2.2.2.2.2.2.1
theorem si_trulyR {h : AH} {b : Nat} {A : Nat → Int32} (hs : SI_ h b A) : ∀ p, p < 18 → hp_R h (b + 33) p = some (b + 34 + p) := hs.2.2.2.2.2.2.2.2.2.2.2.2.2.2.2.2.2.2.2.2.2.1
theorem si_trulyK {h : AH} {b : Nat} {A : Nat → Int32} (hs : SI_ h b A) : ∀ p, p < 18 → hp_K h (b + 34 + p) = (100, 100) := hs.2.2.2.2.2.2.2.2.2.2.2.2.2.2.2.2.2.2.2.2.2.2.1
theorem si_Dlight {h : AH} {b : Nat} {A : Nat → Int32} (hs : SI_ h b A) : ∀ t, t < 100 → hp_I h (b + 1) t = A t := hs.2.2.2.2.2.2.2.2.2.2.2.2.2.2.2.2.2.2.2.2.2.2.2.1
theorem si_Dneed {h : AH} {b : Nat} {A : Nat → Int32} (hs : SI_ h b A) : ∀ p, p < 9 → hp_I h (b + 2) p = A (100 + p) := hs.2.2.2.2.2.2.2.2.2.2.2.2.2.2.2.2.2.2.2.2.2.2.2.2.1
theorem si_Dfirm {h : AH} {b : Nat} {A : Nat → Int32} (hs : SI_ h b A) : ∀ p, p < 9 → hp_I h (b + 3) p = A (110 + p) := hs.2.2.2.2.2.2.2.2.2.2.2.2.2.2.2.2.2.2.2.2.2.2.2.2.2.1
theorem si_Deyes {h : AH} {b : Nat} {A : Nat → Int32} (hs : SI_ h b A) : ∀ p, p < 9 → ∀ t, t < 100 → hp_I h (b + 5 + p) t = A (120 + 100 * p + t) := hs.2.2.2.2.2.2.2.2.2.2.2.2.2.2.2.2.2.2.2.2.2.2.2.2.2.2.1
theorem si_Dseems {h : AH} {b : Nat} {A : Nat → Int32} (hs : SI_ h b A) : ∀ p, p < 18 → ∀ t, t < 100 → hp_I h (b + 15 + p) t = A (1070 + 100 * p + t) := hs.2.2.2.2.2.2.2.2.2.2.2.2.2.2.2.2.2.2.2.2.2.2.2.2.2.2.2.1
theorem si_Dtruly {h : AH} {b : Nat} {A : Nat → Int32} (hs : SI_ h b A) : ∀ p, p < 18 → ∀ t, t < 100 → hp_I h (b + 34 + p) t = A (2870 + 100 * p + t) := hs.2.2.2.2.2.2.2.2.2.2.2.2.2.2.2.2.2.2.2.2.2.2.2.2.2.2.2.2.1
theorem si_Dspots {h : AH} {b : Nat} {A : Nat → Int32} (hs : SI_ h b A) : ∀ k, k < 8 → hp_I h (b + 56) k = A (4670 + k) := hs.2.2.2.2.2.2.2.2.2.2.2.2.2.2.2.2.2.2.2.2.2.2.2.2.2.2.2.2.2.1
theorem si_things {h : AH} {b : Nat} {A : Nat → Int32} (hs : SI_ h b A) : hp_I h b 9 = A 4881 := hs.2.2.2.2.2.2.2.2.2.2.2.2.2.2.2.2.2.2.2.2.2.2.2.2.2.2.2.2.2.2.1
theorem si_leads {h : AH} {b : Nat} {A : Nat → Int32} (hs : SI_ h b A) : ∃ D c f, AL_ h (b + 52) D c (nLed A) f ∧ ∀ k, k < nLed A → LE_ h (f k) A k := hs.2.2.2.2.2.2.2.2.2.2.2.2.2.2.2.2.2.2.2.2.2.2.2.2.2.2.2.2.2.2.2.1
theorem si_moves {h : AH} {b : Nat} {A : Nat → Int32} (hs : SI_ h b A) : ∃ D c f, AL_ h (b + 54) D c (nMov A) f ∧ ∀ k, k < nMov A → MO_ h (f k) A k := hs.2.2.2.2.2.2.2.2.2.2.2.2.2.2.2.2.2.2.2.2.2.2.2.2.2.2.2.2.2.2.2.2
theorem si_eyesV {h : AH} {b : Nat} {A : Nat → Int32} (hs : SI_ h b A) {p : Nat} (hp : p < 9) : va_rf (hp_R h (b + 4) p) = .ref (b + 5 + p) := by rw [si_eyesR hs p hp]; rfl
theorem si_seemsV {h : AH} {b : Nat} {A : Nat → Int32} (hs : SI_ h b A) {p : Nat} (hp : p < 18) : va_rf (hp_R h (b + 14) p) = .ref (b + 15 + p) := by rw [si_seemsR hs p hp]; rfl
theorem si_trulyV {h : AH} {b : Nat} {A : Nat → Int32} (hs : SI_ h b A) {p : Nat} (hp : p < 18) : va_rf (hp_R h (b + 33) p) = .ref (b + 34 + p) := by rw [si_trulyR hs p hp]; rfl
/-- the cells that x keeps -/
def XC_ (h : AH) : Prop := (hp_R h 30 0 = some 31) ∧ (hp_K h 31 = (100, 6)) ∧ (hp_R h 30 3 = some 89) ∧ (hp_K h 89 = (108, 3)) ∧ (hp_R h 30 4 = some 90) ∧ (hp_R h 30 9 = some 94) ∧ (hp_K h 94 = (3, 0)) ∧ (hp_R h 94 9 = some 30) ∧ (hp_R h 30 10 = some 95) ∧ (hp_K h 95 = (102, 400)) ∧ (hp_R h 30 14 = some 96) ∧ (hp_R h 30 15 = some 98) ∧ (hp_K h 98 = (4, 0)) ∧ (hp_R h 30 16 = some 238) ∧ (hp_K h 238 = (100, 9)) ∧ (hp_R h 30 17 = some 239) ∧ (hp_K h 239 = (100, 9)) ∧ (hp_R h 30 19 = some 240) ∧ (hp_K h 240 = (103, 10))
theorem xc_Rrefusals {h : AH} (hs : XC_ h) : hp_R h 30 0 = some 31 := hs.1
theorem xc_refusals {h : AH} (hs : XC_ h) : hp_K h 31 = (100, 6) := hs.2.1
theorem xc_Rimages {h : AH} (hs : XC_ h) : hp_R h 30 3 = some 89 := hs.2.2.1
theorem xc_images {h : AH} (hs : XC_ h) : hp_K h 89 = (108, 3) := hs.2.2.2.1
theorem xc_Rcontrols {h : AH} (hs : XC_ h) : hp_R h 30 4 = some 90 := hs.2.2.2.2.1
theorem xc_Rrun {h : AH} (hs : XC_ h) : hp_R h 30 9 = some 94 := hs.2.2.2.2.2.1
theorem xc_run {h : AH} (hs : XC_ h) : hp_K h 94 = (3, 0) := hs.2.2.2.2.2.2.1
theorem xc_run0 {h : AH} (hs : XC_ h) : hp_R h 94 9 = some 30 := hs.2.2.2.2.2.2.2.1
theorem xc_Rtape {h : AH} (hs : XC_ h) : hp_R h 30 10 = some 95 := hs.2.2.2.2.2.2.2.2.1
theorem xc_tape {h : AH} (hs : XC_ h) : hp_K h 95 = (102, 400) := hs.2.2.2.2.2.2.2.2.2.1
theorem xc_Rreports {h : AH} (hs : XC_ h) : hp_R h 30 14 = some 96 := hs.2.2.2.2.2.2.2.2.2.2.1
theorem xc_Rpassing {h : AH} (hs : XC_ h) : hp_R h 30 15 = some 98 := hs.2.2.2.2.2.2.2.2.2.2.2.1
theorem xc_passing {h : AH} (hs : XC_ h) : hp_K h 98 = (4, 0) := hs.2.2.2.2.2.2.2.2.2.2.2.2.1
theorem xc_Ranswers {h : AH} (hs : XC_ h) : hp_R h 30 16 = some 238 := hs.2.2.2.2.2.2.2.2.2.2.2.2.2.1
theorem xc_answers {h : AH} (hs : XC_ h) : hp_K h 238 = (100, 9) := hs.2.2.2.2.2.2.2.2.2.2.2.2.2.2.1
theorem xc_Rhits {h : AH} (hs : XC_ h) : hp_R h 30 17 = some 239 := hs.2.2.2.2.2.2.2.2.2.2.2.2.2.2.2.1
theorem xc_hits {h : AH} (hs : XC_ h) : hp_K h 239 = (100, 9) := hs.2.2.2.2.2.2.2.2.2.2.2.2.2.2.2.2.1
theorem xc_Rexact {h : AH} (hs : XC_ h) : hp_R h 30 19 = some 240 := hs.2.2.2.2.2.2.2.2.2.2.2.2.2.2.2.2.2.1
theorem xc_exact {h : AH} (hs : XC_ h) : hp_K h 240 = (103, 10) := hs.2.2.2.2.2.2.2.2.2.2.2.2.2.2.2.2.2.2
/-- x and what is asked: seats, the sitting, the force -/
def XO_ (h : AH) (b sN : Nat) (S : Int32) : Prop := hp_K h 30 = (1, 0) ∧ hp_I h 30 1 = nI sN ∧ hp_R h 30 2 = some b ∧ hp_I h 30 5 = S ∧ XC_ h
/-- THE CLASS's DATA: sitting at b telling A, controls telling C -/
def XQ_ (h : AH) (b : Nat) (A : Nat → Int32) (C : Nat → Nat → Int32) (nC sN : Nat) (S : Int32) : Prop := XO_ h b sN S ∧ SI_ h b A ∧ (∃ D c f, AL_ h 90 D c nC f ∧ ∀ k, k < nC → CL_ h (f k) C k) ∧ sv_ok A sN ∧ cl_ok C nC sN
theorem c_X0_in {G : Gv} {h : AH} (x lo hi : Int32) : Ctr G 0 yX0_in cX0_in 6 (some .boolean) [.long x.toInt64, .long lo.toInt64, .long hi.toInt64] h 0 0 (Pu h (.int (b2i (lo ≤ x ∧ x ≤ hi)))) := by
  refine ctr_of (own := RX0) (nm := "in") (by decide) (Nat.le_of_ble_eq_true rfl) ?_
  refine v_lload_n dX0_in_0 rfl rfl ?_
  refine v_lload_n dX0_in_1 rfl rfl ?_
  refine v_lcmp dX0_in_2 ?_
  refine v_if_lt (tgt := 17) dX0_in_3 (by decide) (fun b3 => ?_) (fun b3 => ?_)
  · skip
    refine v_iconst (v := 0) dX0_in_17 (by decide) ?_
    exact v_reti dX0_in_18 (by first | rfl | exact rt_z) (Pu_i (by simp only [lg_cmp_lt, lg_cmp_gt, lt64] at *; first | exact (b2i_t (by grind)).symm | exact (b2i_f (by grind)).symm))
  · skip
    refine v_lload_n dX0_in_6 rfl rfl ?_
    refine v_lload dX0_in_7 rfl ?_
    refine v_lcmp dX0_in_9 ?_
    refine v_if_gt (tgt := 17) dX0_in_10 (by decide) (fun b10 => ?_) (fun b10 => ?_)
    · skip
      refine v_iconst (v := 0) dX0_in_17 (by decide) ?_
      exact v_reti dX0_in_18 (by first | rfl | exact rt_z) (Pu_i (by simp only [lg_cmp_lt, lg_cmp_gt, lt64] at *; first | exact (b2i_t (by grind)).symm | exact (b2i_f (by grind)).symm))
    · skip
      refine v_iconst (v := 1) dX0_in_13 (by decide) ?_
      refine v_goto (tgt := 18) dX0_in_14 (by decide) ?_
      exact v_reti dX0_in_18 (by first | rfl | exact rt_z) (Pu_i (by simp only [lg_cmp_lt, lg_cmp_gt, lt64] at *; first | exact (b2i_t (by grind)).symm | exact (b2i_f (by grind)).symm))

theorem c_X0_isSecond {G : Gv} {h : AH} (p : Int32) : Ctr G 1 yX0_isSecond cX0_isSecond 1 (some .boolean) [.int p] h 0 0 (Pu h (.int (b2i (0 ≤ p ∧ p ≤ 99)))) := by
  refine ctr_of (own := RX0) (nm := "isSecond") (by decide) (Nat.le_of_ble_eq_true rfl) ?_
  refine v_iload_n dX0_isSecond_0 rfl rfl ?_
  refine v_i2l dX0_isSecond_1 ?_
  refine v_lconst (v := (0 : Int32).toInt64) dX0_isSecond_2 (by decide) ?_
  refine v_ldc2 (v := (99 : Int32).toInt64) q464 dX0_isSecond_3 (by decide) ?_
  refine v_pS mtX0_in q162 q163 dX0_isSecond_6 (c_X0_in _ _ _) (by first | decide | omega) ?_
  exact v_reti dX0_isSecond_9 rt_z (Pu_i rfl)

theorem c_X0_areSeconds {G : Gv} {h : AH} (a b : Int32) : Ctr G 2 yX0_areSeconds cX0_areSeconds 2 (some .boolean) [.int a, .int b] h 0 0 (Pu h (.int (b2i (0 ≤ a ∧ a ≤ b ∧ b ≤ 99)))) := by
  refine ctr_of (own := RX0) (nm := "areSeconds") (by decide) (Nat.le_of_ble_eq_true rfl) ?_
  refine v_iload_n dX0_areSeconds_0 rfl rfl ?_
  refine v_pS mtX0_isSecond q461 q462 dX0_areSeconds_1 (c_X0_isSecond _) (by first | decide | omega) ?_
  refine v_if_eq (tgt := 24) dX0_areSeconds_4 (by decide) (fun b4 => ?_) (fun b4 => ?_)
  · skip
    refine v_iconst (v := 0) dX0_areSeconds_24 (by decide) ?_
    exact v_reti dX0_areSeconds_25 (by first | rfl | exact rt_z) (Pu_i (by simp only [b2i_0, b2i_n0] at *; first | exact (b2i_t (by grind)).symm | exact (b2i_f (by grind)).symm))
  · skip
    refine v_iload_n dX0_areSeconds_7 rfl rfl ?_
    refine v_i2l dX0_areSeconds_8 ?_
    refine v_iload_n dX0_areSeconds_9 rfl rfl ?_
    refine v_i2l dX0_areSeconds_10 ?_
    refine v_ldc2 (v := (99 : Int32).toInt64) q464 dX0_areSeconds_11 (by decide) ?_
    refine v_pS mtX0_in q162 q163 dX0_areSeconds_14 (c_X0_in _ _ _) (by first | decide | omega) ?_
    refine v_if_eq (tgt := 24) dX0_areSeconds_17 (by decide) (fun b17 => ?_) (fun b17 => ?_)
    · skip
      refine v_iconst (v := 0) dX0_areSeconds_24 (by decide) ?_
      exact v_reti dX0_areSeconds_25 (by first | rfl | exact rt_z) (Pu_i (by simp only [b2i_0, b2i_n0] at *; first | exact (b2i_t (by grind)).symm | exact (b2i_f (by grind)).symm))
    · skip
      refine v_iconst (v := 1) dX0_areSeconds_20 (by decide) ?_
      refine v_goto (tgt := 25) dX0_areSeconds_21 (by decide) ?_
      exact v_reti dX0_areSeconds_25 (by first | rfl | exact rt_z) (Pu_i (by simp only [b2i_0, b2i_n0] at *; first | exact (b2i_t (by grind)).symm | exact (b2i_f (by grind)).symm))

theorem c_X0_isPerson {G : Gv} {h : AH} {b sN : Nat} {S : Int32} (hX : XO_ h b sN S) (h9 : sN ≤ 9) (p : Int32) : Ctr G 1 yX0_isPerson cX0_isPerson 2 (some .boolean) [.ref 30, .int p] h 0 0 (Pu h (.int (b2i (0 ≤ p ∧ p < nI sN)))) := by
  refine ctr_of (own := RX0) (nm := "isPerson") (by decide) (Nat.le_of_ble_eq_true rfl) ?_
  refine v_iload_n dX0_isPerson_0 rfl rfl ?_
  refine v_i2l dX0_isPerson_1 ?_
  refine v_lconst (v := (0 : Int32).toInt64) dX0_isPerson_2 (by decide) ?_
  refine v_aload_n dX0_isPerson_3 rfl rfl ?_
  refine v_getI fX0_25 dX0_isPerson_4 hX.1 ?_
  refine v_iconst (v := 1) dX0_isPerson_7 (by decide) ?_
  refine v_isub dX0_isPerson_8 ?_
  refine v_i2l dX0_isPerson_9 ?_
  refine v_pS mtX0_in q162 q163 dX0_isPerson_10 (c_X0_in _ _ _) (by first | decide | omega) ?_
  exact v_reti dX0_isPerson_13 rt_z (Pu_i (by rw [hX.2.1]; exact b2i_c (in_pred (by omega))))

theorem c_X0_isHand {G : Gv} {h : AH} {b sN : Nat} {S : Int32} (hX : XO_ h b sN S) (h9 : sN ≤ 9) (p : Int32) : Ctr G 1 yX0_isHand cX0_isHand 2 (some .boolean) [.ref 30, .int p] h 0 0 (Pu h (.int (b2i (0 ≤ p ∧ p < 2 * nI sN)))) := by
  refine ctr_of (own := RX0) (nm := "isHand") (by decide) (Nat.le_of_ble_eq_true rfl) ?_
  refine v_iload_n dX0_isHand_0 rfl rfl ?_
  refine v_i2l dX0_isHand_1 ?_
  refine v_lconst (v := (0 : Int32).toInt64) dX0_isHand_2 (by decide) ?_
  refine v_iconst (v := 2) dX0_isHand_3 (by decide) ?_
  refine v_aload_n dX0_isHand_4 rfl rfl ?_
  refine v_getI fX0_25 dX0_isHand_5 hX.1 ?_
  refine v_imul dX0_isHand_8 ?_
  refine v_iconst (v := 1) dX0_isHand_9 (by decide) ?_
  refine v_isub dX0_isHand_10 ?_
  refine v_i2l dX0_isHand_11 ?_
  refine v_pS mtX0_in q162 q163 dX0_isHand_12 (c_X0_in _ _ _) (by first | decide | omega) ?_
  exact v_reti dX0_isHand_15 rt_z (Pu_i (by rw [hX.2.1]; exact b2i_c (in_pred2 (by omega))))

theorem c_X0_isSpot {G : Gv} {h : AH} {b sN : Nat} {S : Int32} (hX : XO_ h b sN S) (p : Int32) : Ctr G 1 yX0_isSpot cX0_isSpot 2 (some .boolean) [.ref 30, .int p] h 0 0 (Pu h (.int (b2i (0 ≤ p ∧ p ≤ nI sN)))) := by
  refine ctr_of (own := RX0) (nm := "isSpot") (by decide) (Nat.le_of_ble_eq_true rfl) ?_
  refine v_iload_n dX0_isSpot_0 rfl rfl ?_
  refine v_i2l dX0_isSpot_1 ?_
  refine v_lconst (v := (0 : Int32).toInt64) dX0_isSpot_2 (by decide) ?_
  refine v_aload_n dX0_isSpot_3 rfl rfl ?_
  refine v_getI fX0_25 dX0_isSpot_4 hX.1 ?_
  refine v_i2l dX0_isSpot_7 ?_
  refine v_pS mtX0_in q162 q163 dX0_isSpot_8 (c_X0_in _ _ _) (by first | decide | omega) ?_
  exact v_reti dX0_isSpot_11 rt_z (Pu_i (by rw [hX.2.1]))

theorem c_X0_isThing {G : Gv} {h : AH} {b sN : Nat} {S : Int32} (hX : XO_ h b sN S) {A : Nat → Int32} (hS : SI_ h b A) (hL : A 4881 = nI (nLaid A)) (h8 : nLaid A ≤ 8) (p : Int32) : Ctr G 1 yX0_isThing cX0_isThing 2 (some .boolean) [.ref 30, .int p] h 0 0 (Pu h (.int (b2i (0 ≤ p ∧ p < A 4881)))) := by
  refine ctr_of (own := RX0) (nm := "isThing") (by decide) (Nat.le_of_ble_eq_true rfl) ?_
  refine v_iload_n dX0_isThing_0 rfl rfl ?_
  refine v_i2l dX0_isThing_1 ?_
  refine v_lconst (v := (0 : Int32).toInt64) dX0_isThing_2 (by decide) ?_
  refine v_aload_n dX0_isThing_3 rfl rfl ?_
  refine v_getR fX0_32 dX0_isThing_4 hX.1 hX.2.2.1 ?_
  refine v_getI fX0_88 dX0_isThing_7 (si_K hS) ?_
  refine v_iconst (v := 1) dX0_isThing_10 (by decide) ?_
  refine v_isub dX0_isThing_11 ?_
  refine v_i2l dX0_isThing_12 ?_
  refine v_pS mtX0_in q162 q163 dX0_isThing_13 (c_X0_in _ _ _) (by first | decide | omega) ?_
  exact v_reti dX0_isThing_16 rt_z (Pu_i (by rw [si_things hS, hL]; exact b2i_c (in_pred (by omega))))

theorem c_X0_areBeside {G : Gv} {h : AH} {b sN : Nat} {S : Int32} (hX : XO_ h b sN S) {p q : Nat} (h3 : 3 ≤ sN ∧ sN ≤ 9) (hp : p < 1000) (hq : q < 1000) : Ctr G 0 yX0_areBeside cX0_areBeside 3 (some .boolean) [.ref 30, .int (nI p), .int (nI q)] h 0 0 (Pu h (.int (b2i ((p + 1) % sN = q ∨ (q + 1) % sN = p)))) := by
  refine ctr_of (own := RX0) (nm := "areBeside") (by decide) (Nat.le_of_ble_eq_true rfl) ?_
  have hs := hX.2.1
  have hne : ¬ hp_I h 30 1 = 0 := by rw [hs]; exact nI_ne0 (by omega) (by omega)
  have l1 : (p + 1) % sN < sN := Nat.mod_lt _ (by omega)
  have l2 : (q + 1) % sN < sN := Nat.mod_lt _ (by omega)
  refine v_iload_n dX0_areBeside_0 rfl rfl ?_
  refine v_iconst (v := 1) dX0_areBeside_1 (by decide) ?_
  refine v_iadd dX0_areBeside_2 ?_
  refine v_aload_n dX0_areBeside_3 rfl rfl ?_
  refine v_getI fX0_25 dX0_areBeside_4 hX.1 ?_
  refine v_irem dX0_areBeside_7 hne ?_
  rw [hs, nI_1, pk_rem (by omega) (by omega) (by omega)]
  refine v_iload_n dX0_areBeside_8 rfl rfl ?_
  refine v_icmp_eq (tgt := 24) dX0_areBeside_9 (by decide) (fun b9 => ?_) (fun b9 => ?_)
  · skip
    refine v_iconst (v := 1) dX0_areBeside_24 (by decide) ?_
    refine v_goto (tgt := 29) dX0_areBeside_25 (by decide) ?_
    exact v_reti dX0_areBeside_29 (by first | rfl | exact rt_z) (Pu_i (by simp (disch := omega) only [nI_eq, nI_ltI, nI_leI, nI_m1, m1_nI, b2i_0, b2i_n0] at *; first | exact (b2i_t (by omega)).symm | exact (b2i_f (by omega)).symm))
  · skip
    refine v_iload_n dX0_areBeside_12 rfl rfl ?_
    refine v_iconst (v := 1) dX0_areBeside_13 (by decide) ?_
    refine v_iadd dX0_areBeside_14 ?_
    refine v_aload_n dX0_areBeside_15 rfl rfl ?_
    refine v_getI fX0_25 dX0_areBeside_16 hX.1 ?_
    refine v_irem dX0_areBeside_19 hne ?_
    rw [hs, nI_1, pk_rem (by omega) (by omega) (by omega)]
    refine v_iload_n dX0_areBeside_20 rfl rfl ?_
    refine v_icmp_ne (tgt := 28) dX0_areBeside_21 (by decide) (fun b21 => ?_) (fun b21 => ?_)
    · skip
      refine v_iconst (v := 0) dX0_areBeside_28 (by decide) ?_
      exact v_reti dX0_areBeside_29 (by first | rfl | exact rt_z) (Pu_i (by simp (disch := omega) only [nI_eq, nI_ltI, nI_leI, nI_m1, m1_nI, b2i_0, b2i_n0] at *; first | exact (b2i_t (by omega)).symm | exact (b2i_f (by omega)).symm))
    · skip
      refine v_iconst (v := 1) dX0_areBeside_24 (by decide) ?_
      refine v_goto (tgt := 29) dX0_areBeside_25 (by decide) ?_
      exact v_reti dX0_areBeside_29 (by first | rfl | exact rt_z) (Pu_i (by simp (disch := omega) only [nI_eq, nI_ltI, nI_leI, nI_m1, m1_nI, b2i_0, b2i_n0] at *; first | exact (b2i_t (by omega)).symm | exact (b2i_f (by omega)).symm))

theorem c_X0_reaches {G : Gv} {h : AH} {b sN : Nat} {S : Int32} (hX : XO_ h b sN S) {p x : Nat} (h39 : 3 ≤ sN ∧ sN ≤ 9) (hp : p < 1000) (hx : x < 1000) : Ctr G 1 yX0_reaches cX0_reaches 3 (some .boolean) [.ref 30, .int (nI p), .int (nI x)] h 0 0 (Pu h (.int (b2i (x = sN ∨ x = p ∨ (p + 1) % sN = x ∨ (x + 1) % sN = p)))) := by
  refine ctr_of (own := RX0) (nm := "reaches") (by decide) (Nat.le_of_ble_eq_true rfl) ?_
  have hs := hX.2.1
  refine v_iload_n dX0_reaches_0 rfl rfl ?_
  refine v_aload_n dX0_reaches_1 rfl rfl ?_
  refine v_getI fX0_25 dX0_reaches_2 hX.1 ?_
  refine v_icmp_eq (tgt := 22) dX0_reaches_5 (by decide) (fun b5 => ?_) (fun b5 => ?_)
  · skip
    refine v_iconst (v := 1) dX0_reaches_22 (by decide) ?_
    refine v_goto (tgt := 27) dX0_reaches_23 (by decide) ?_
    exact v_reti dX0_reaches_27 (by first | rfl | exact rt_z) (Pu_i (by (try rw [hs] at *); simp (disch := omega) only [nI_eq, nI_ltI, nI_leI, nI_m1, m1_nI, b2i_0, b2i_n0] at *; first | exact (b2i_t (by omega)).symm | exact (b2i_f (by omega)).symm))
  · skip
    refine v_iload_n dX0_reaches_8 rfl rfl ?_
    refine v_iload_n dX0_reaches_9 rfl rfl ?_
    refine v_icmp_eq (tgt := 22) dX0_reaches_10 (by decide) (fun b10 => ?_) (fun b10 => ?_)
    · skip
      refine v_iconst (v := 1) dX0_reaches_22 (by decide) ?_
      refine v_goto (tgt := 27) dX0_reaches_23 (by decide) ?_
      exact v_reti dX0_reaches_27 (by first | rfl | exact rt_z) (Pu_i (by (try rw [hs] at *); simp (disch := omega) only [nI_eq, nI_ltI, nI_leI, nI_m1, m1_nI, b2i_0, b2i_n0] at *; first | exact (b2i_t (by omega)).symm | exact (b2i_f (by omega)).symm))
    · skip
      refine v_aload_n dX0_reaches_13 rfl rfl ?_
      refine v_iload_n dX0_reaches_14 rfl rfl ?_
      refine v_iload_n dX0_reaches_15 rfl rfl ?_
      refine v_pV mtX0_areBeside q585 q587 qs8 rfl (by decide) dX0_reaches_16 (c_X0_areBeside hX ⟨h39.1, h39.2⟩ ?_ ?_) hX.1 (by first | decide | omega) ?_
      · omega
      · omega
      refine v_if_eq (tgt := 26) dX0_reaches_19 (by decide) (fun b19 => ?_) (fun b19 => ?_)
      · skip
        refine v_iconst (v := 0) dX0_reaches_26 (by decide) ?_
        exact v_reti dX0_reaches_27 (by first | rfl | exact rt_z) (Pu_i (by (try rw [hs] at *); simp (disch := omega) only [nI_eq, nI_ltI, nI_leI, nI_m1, m1_nI, b2i_0, b2i_n0] at *; first | exact (b2i_t (by omega)).symm | exact (b2i_f (by omega)).symm))
      · skip
        refine v_iconst (v := 1) dX0_reaches_22 (by decide) ?_
        refine v_goto (tgt := 27) dX0_reaches_23 (by decide) ?_
        exact v_reti dX0_reaches_27 (by first | rfl | exact rt_z) (Pu_i (by (try rw [hs] at *); simp (disch := omega) only [nI_eq, nI_ltI, nI_leI, nI_m1, m1_nI, b2i_0, b2i_n0] at *; first | exact (b2i_t (by omega)).symm | exact (b2i_f (by omega)).symm))

theorem shl9 : ∀ n, n < 10 → (1 : Int32) <<< (nI n &&& 31) = nI (2 ^ n) := by decide +kernel
theorem c_X0_isSet {G : Gv} {h : AH} {b sN : Nat} {S : Int32} (hX : XO_ h b sN S) (h9 : sN ≤ 9) (p : Int32) : Ctr G 0 yX0_isSet cX0_isSet 2 (some .boolean) [.ref 30, .int p] h 0 0 (Pu h (.int (b2i (0 ≤ p ∧ p < nI (2 ^ sN))))) := by
  refine ctr_of (own := RX0) (nm := "isSet") (by decide) (Nat.le_of_ble_eq_true rfl) ?_
  refine v_iload_n dX0_isSet_0 rfl rfl ?_
  refine v_if_lt (tgt := 18) dX0_isSet_1 (by decide) (fun b1 => ?_) (fun b1 => ?_)
  · skip
    refine v_iconst (v := 0) dX0_isSet_18 (by decide) ?_
    exact v_reti dX0_isSet_19 (by first | rfl | exact rt_z) (Pu_i (by (try simp only [Int32.not_lt] at *); first | exact (b2i_t (by grind)).symm | exact (b2i_f (by grind)).symm))
  · skip
    refine v_iload_n dX0_isSet_4 rfl rfl ?_
    refine v_iconst (v := 1) dX0_isSet_5 (by decide) ?_
    refine v_aload_n dX0_isSet_6 rfl rfl ?_
    refine v_getI fX0_25 dX0_isSet_7 hX.1 ?_
    refine v_ishl dX0_isSet_10 ?_
    rw [hX.2.1, shl9 _ (by omega)]
    refine v_icmp_ge (tgt := 18) dX0_isSet_11 (by decide) (fun b11 => ?_) (fun b11 => ?_)
    · skip
      refine v_iconst (v := 0) dX0_isSet_18 (by decide) ?_
      exact v_reti dX0_isSet_19 (by first | rfl | exact rt_z) (Pu_i (by (try simp only [Int32.not_lt] at *); first | exact (b2i_t (by grind)).symm | exact (b2i_f (by grind)).symm))
    · skip
      refine v_iconst (v := 1) dX0_isSet_14 (by decide) ?_
      refine v_goto (tgt := 19) dX0_isSet_15 (by decide) ?_
      exact v_reti dX0_isSet_19 (by first | rfl | exact rt_z) (Pu_i (by (try simp only [Int32.not_lt] at *); first | exact (b2i_t (by grind)).symm | exact (b2i_f (by grind)).symm))

theorem c_X0_isTask {G : Gv} {h : AH} {b sN : Nat} {S : Int32} (hX : XO_ h b sN S) {A : Nat → Int32} (hS : SI_ h b A) (hL : A 4881 = nI (nLaid A)) (h8 : nLaid A ≤ 8) (th x s e : Int32) : Ctr G 3 yX0_isTask cX0_isTask 5 (some .boolean) [.ref 30, .int th, .int x, .int s, .int e] h 0 0 (Pu h (.int (b2i ((0 ≤ th ∧ th < A 4881) ∧ (0 ≤ x ∧ x ≤ nI sN) ∧ (0 ≤ s ∧ s ≤ e ∧ e ≤ 99))))) := by
  refine ctr_of (own := RX0) (nm := "isTask") (by decide) (Nat.le_of_ble_eq_true rfl) ?_
  refine v_aload_n dX0_isTask_0 rfl rfl ?_
  refine v_iload_n dX0_isTask_1 rfl rfl ?_
  refine v_pV mtX0_isThing q597 q599 qs9 rfl (by decide) dX0_isTask_2 (c_X0_isThing hX hS hL h8 _) hX.1 (by first | decide | omega) ?_
  refine v_if_eq (tgt := 29) dX0_isTask_5 (by decide) (fun b5 => ?_) (fun b5 => ?_)
  · skip
    refine v_iconst (v := 0) dX0_isTask_29 (by decide) ?_
    exact v_reti dX0_isTask_30 (by first | rfl | exact rt_z) (Pu_i (by simp only [b2i_0, b2i_n0] at *; first | exact (b2i_t (by grind)).symm | exact (b2i_f (by grind)).symm))
  · skip
    refine v_aload_n dX0_isTask_8 rfl rfl ?_
    refine v_iload_n dX0_isTask_9 rfl rfl ?_
    refine v_pV mtX0_isSpot q469 q471 qs2 rfl (by decide) dX0_isTask_10 (c_X0_isSpot hX _) hX.1 (by first | decide | omega) ?_
    refine v_if_eq (tgt := 29) dX0_isTask_13 (by decide) (fun b13 => ?_) (fun b13 => ?_)
    · skip
      refine v_iconst (v := 0) dX0_isTask_29 (by decide) ?_
      exact v_reti dX0_isTask_30 (by first | rfl | exact rt_z) (Pu_i (by simp only [b2i_0, b2i_n0] at *; first | exact (b2i_t (by grind)).symm | exact (b2i_f (by grind)).symm))
    · skip
      refine v_iload_n dX0_isTask_16 rfl rfl ?_
      refine v_iload dX0_isTask_17 rfl ?_
      refine v_pS mtX0_areSeconds q458 q459 dX0_isTask_19 (c_X0_areSeconds _ _) (by first | decide | omega) ?_
      refine v_if_eq (tgt := 29) dX0_isTask_22 (by decide) (fun b22 => ?_) (fun b22 => ?_)
      · skip
        refine v_iconst (v := 0) dX0_isTask_29 (by decide) ?_
        exact v_reti dX0_isTask_30 (by first | rfl | exact rt_z) (Pu_i (by simp only [b2i_0, b2i_n0] at *; first | exact (b2i_t (by grind)).symm | exact (b2i_f (by grind)).symm))
      · skip
        refine v_iconst (v := 1) dX0_isTask_25 (by decide) ?_
        refine v_goto (tgt := 30) dX0_isTask_26 (by decide) ?_
        exact v_reti dX0_isTask_30 (by first | rfl | exact rt_z) (Pu_i (by simp only [b2i_0, b2i_n0] at *; first | exact (b2i_t (by grind)).symm | exact (b2i_f (by grind)).symm))

theorem c_X0_refused {G : Gv} {h : AH} {b sN : Nat} {S : Int32} (hX : XO_ h b sN S) {k : Nat} (hk : k < 6) : Ctr G 0 yX0_refused cX0_refused 2 (some .int) [.ref 30, .int (nI k)] h 0 0 (fun r h1 => r = some (.int (-1)) ∧ h1 = up_I h 31 k (hp_I h 31 k + 1)) := by
  refine ctr_of (own := RX0) (nm := "refused") (by decide) (Nat.le_of_ble_eq_true rfl) ?_
  refine v_aload_n dX0_refused_0 rfl rfl ?_
  refine v_getR fX0_13 dX0_refused_1 hX.1 (xc_Rrefusals hX.2.2.2.2) ?_
  refine v_iload_n dX0_refused_4 rfl rfl ?_
  refine v_dup2 dX0_refused_5 rfl rfl ?_
  refine v_iald dX0_refused_6 (xc_refusals hX.2.2.2.2) rfl (by first | assumption | omega) ?_
  refine v_iconst (v := 1) dX0_refused_7 (by decide) ?_
  refine v_iadd dX0_refused_8 ?_
  refine v_iast dX0_refused_9 (xc_refusals hX.2.2.2.2) rfl (by first | assumption | omega) ?_
  refine v_iconst (v := (-1)) dX0_refused_10 (by decide) ?_
  exact v_reti dX0_refused_11 rfl ⟨rfl, rfl⟩

theorem c_X0_may {G : Gv} {h : AH} {b sN : Nat} {S : Int32} (hX : XO_ h b sN S) {k : Nat} (hk : k < 6) : Ctr G 0 yX0_may cX0_may 2 (some .boolean) [.ref 30, .int (nI k)] h 0 0 (fun r h1 => (k = 0 ∧ r = some (.int 1) ∧ h1 = h) ∨ (¬ k = 0 ∧ r = some (.int 0) ∧ h1 = up_I h 31 k (hp_I h 31 k + 1))) := by
  refine ctr_of (own := RX0) (nm := "may") (by decide) (Nat.le_of_ble_eq_true rfl) ?_
  refine v_iload_n dX0_may_0 rfl rfl ?_
  refine v_if_le (tgt := 14) dX0_may_1 (by decide) (fun b1 => ?_) (fun b1 => ?_)
  · skip
    have hk0 : k = 0 := by
      rw [show (0 : Int32) = nI 0 from rfl, nI_leI (by omega) (by omega)] at b1
      omega
    subst hk0
    refine v_iload_n dX0_may_14 rfl rfl ?_
    refine v_if_ne (tgt := 22) dX0_may_15 (by decide) (fun b15 => ?_) (fun b15 => ?_)
    · skip
      refine v_iconst (v := 0) dX0_may_22 (by decide) ?_
      first | exact v_reti dX0_may_23 rfl (Or.inl ⟨rfl, rfl, rfl⟩) | exact v_reti dX0_may_23 rfl (Or.inr ⟨hk0, rfl, rfl⟩) | exact absurd rfl b15 | exact absurd ((nI_eqL (by omega) (by decide)).mp b15) hk0 | exact absurd b15 (fun z => hk0 ((nI_eqL (by omega) (by decide)).mp z))
    · skip
      refine v_iconst (v := 1) dX0_may_18 (by decide) ?_
      refine v_goto (tgt := 23) dX0_may_19 (by decide) ?_
      first | exact v_reti dX0_may_23 rfl (Or.inl ⟨rfl, rfl, rfl⟩) | exact v_reti dX0_may_23 rfl (Or.inr ⟨hk0, rfl, rfl⟩) | exact absurd rfl b15 | exact absurd ((nI_eqL (by omega) (by decide)).mp b15) hk0 | exact absurd b15 (fun z => hk0 ((nI_eqL (by omega) (by decide)).mp z))
  · skip
    have hk0 : ¬ k = 0 := fun z => b1 (by subst z; decide)
    refine v_aload_n dX0_may_4 rfl rfl ?_
    refine v_getR fX0_13 dX0_may_5 hX.1 (xc_Rrefusals hX.2.2.2.2) ?_
    refine v_iload_n dX0_may_8 rfl rfl ?_
    refine v_dup2 dX0_may_9 rfl rfl ?_
    refine v_iald dX0_may_10 (xc_refusals hX.2.2.2.2) rfl (by first | assumption | omega) ?_
    refine v_iconst (v := 1) dX0_may_11 (by decide) ?_
    refine v_iadd dX0_may_12 ?_
    refine v_iast dX0_may_13 (xc_refusals hX.2.2.2.2) rfl (by first | assumption | omega) ?_
    refine v_iload_n dX0_may_14 rfl rfl ?_
    refine v_if_ne (tgt := 22) dX0_may_15 (by decide) (fun b15 => ?_) (fun b15 => ?_)
    · skip
      refine v_iconst (v := 0) dX0_may_22 (by decide) ?_
      first | exact v_reti dX0_may_23 rfl (Or.inl ⟨rfl, rfl, rfl⟩) | exact v_reti dX0_may_23 rfl (Or.inr ⟨hk0, rfl, rfl⟩) | exact absurd rfl b15 | exact absurd ((nI_eqL (by omega) (by decide)).mp b15) hk0 | exact absurd b15 (fun z => hk0 ((nI_eqL (by omega) (by decide)).mp z))
    · skip
      refine v_iconst (v := 1) dX0_may_18 (by decide) ?_
      refine v_goto (tgt := 23) dX0_may_19 (by decide) ?_
      first | exact v_reti dX0_may_23 rfl (Or.inl ⟨rfl, rfl, rfl⟩) | exact v_reti dX0_may_23 rfl (Or.inr ⟨hk0, rfl, rfl⟩) | exact absurd rfl b15 | exact absurd ((nI_eqL (by omega) (by decide)).mp b15) hk0 | exact absurd b15 (fun z => hk0 ((nI_eqL (by omega) (by decide)).mp z))

