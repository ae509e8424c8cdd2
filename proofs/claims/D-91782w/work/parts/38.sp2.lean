set_option maxRecDepth 100000
/-! who sees, who vouches: as the class and the reference both answer -/
def see_ (A : Nat → Int32) (C : Nat → Nat → Int32) (nC : Nat) (S : Int32) (p : Nat) (x : Int32) (t : Nat) : Prop := eyes_ A C nC S p t = x ∧ A (100 + p) ≤ li_ A C S t nC
def vch_ (A : Nat → Int32) (C : Nat → Nat → Int32) (nC : Nat) (S : Int32) (B a p t : Nat) : Prop := ¬ a / 2 = p ∧ (A (B + 100 * (2 * p) + t) = nI a ∨ A (B + 100 * (2 * p + 1) + t) = nI a ∨ see_ A C nC S p (nI (a / 2)) t)
noncomputable def sc_ (P : Nat → Prop) (n : Nat) : Nat := @sb_ P (fun _ => Classical.propDecidable _) n
theorem sc_lt (P : Nat → Prop) (n : Nat) : sc_ P n < 2 ^ n := @sb_lt P (fun _ => Classical.propDecidable _) n
theorem sc_bit (P : Nat → Prop) (k n : Nat) : (sc_ P n).testBit k = true ↔ k < n ∧ P k := by
  letI : DecidablePred P := fun _ => Classical.propDecidable _
  have e : sc_ P n = sb_ P n := rfl
  rw [e, sb_bit, decide_eq_true_eq]
theorem sc_0 (P : Nat → Prop) : sc_ P 0 = 0 := rfl
theorem sc_s (P : Nat → Prop) (n : Nat) : sc_ P (n + 1) = @ite _ (P n) (Classical.propDecidable _) (sc_ P n ||| 2 ^ n) (sc_ P n) := rfl
theorem sc_st {P : Nat → Prop} {n : Nat} (h : P n) : sc_ P (n + 1) = sc_ P n ||| 2 ^ n := @if_pos _ (Classical.propDecidable _) h _ _ _
theorem sc_sf {P : Nat → Prop} {n : Nat} (h : ¬ P n) : sc_ P (n + 1) = sc_ P n := @if_neg _ (Classical.propDecidable _) h _ _ _
theorem sc_z {P : Nat → Prop} {n : Nat} : sc_ P n = 0 ↔ ∀ k, k < n → ¬ P k := by
  constructor
  · intro h k hk hp
    have := (sc_bit P k n).mpr ⟨hk, hp⟩
    rw [h] at this
    simp at this
  · intro h
    refine Nat.eq_of_testBit_eq fun k => ?_
    rw [Nat.zero_testBit]
    cases e : (sc_ P n).testBit k with
    | false => rfl
    | true =>
      obtain ⟨h1, h2⟩ := (sc_bit P k n).mp e
      exact absurd h2 (h k h1)
noncomputable def vo_ (A : Nat → Int32) (C : Nat → Nat → Int32) (nC sN : Nat) (S : Int32) (B a t : Nat) : Nat := sc_ (fun p => vch_ A C nC S B a p t) sN
theorem sh_d : ∀ p, p < 31 → ((nI p &&& 31).toBitVec.smod 32).toNat = p := by decide +kernel
theorem has_bit {w p : Nat} (hw : w < 2 ^ 31) (hp : p < 31) : (nI w >>> (nI p &&& 31)) &&& 1 = 1 ↔ w.testBit p = true := by
  rw [pk_shrN hw _ p (sh_d p hp), show (1 : Int32) = nI 1 from rfl, nI_and, nI_eq (by have : w / 2 ^ p &&& 1 ≤ 1 := Nat.and_le_right; omega) (by omega), Nat.and_one_is_mod, Nat.testBit_eq_decide_div_mod_eq, decide_eq_true_eq]
theorem and_cl : ∀ p, p < 9 → ∀ w, w < 512 → nI w &&& (((1 : Int32) <<< (nI p &&& 31)) ^^^ -1) = nI (w &&& (511 ^^^ 2 ^ p)) := by decide +kernel
theorem cl_bit : ∀ p, p < 9 → ∀ k, k < 9 → (511 ^^^ 2 ^ p).testBit k = decide (k ≠ p) := by decide
theorem wa_bit {A : Nat → Int32} {C : Nat → Nat → Int32} {nC sN s t k : Nat} {S : Int32} : (wa_ A C nC sN S s t).testBit k = true ↔ k < sN ∧ see_ A C nC S k (nI s) t := by
  unfold wa_
  rw [sb_bit, decide_eq_true_eq]
  exact Iff.rfl
theorem wa_lt {A : Nat → Int32} {C : Nat → Nat → Int32} {nC sN s t : Nat} {S : Int32} (h9 : sN ≤ 9) : wa_ A C nC sN S s t < 512 := Nat.lt_of_lt_of_le (sb_lt _ _) (Nat.pow_le_pow_right (by decide) h9 : 2 ^ sN ≤ 2 ^ 9)
theorem vo_lt {A : Nat → Int32} {C : Nat → Nat → Int32} {nC sN B a t : Nat} {S : Int32} (h9 : sN ≤ 9) : vo_ A C nC sN S B a t < 512 := Nat.lt_of_lt_of_le (sc_lt _ _) (Nat.pow_le_pow_right (by decide) h9 : 2 ^ sN ≤ 2 ^ 9)
/-- two sets of persons, one cleared of a person -/
theorem vo_eq {A : Nat → Int32} {C : Nat → Nat → Int32} {nC sN B a t hset : Nat} {S : Int32} (h9 : sN ≤ 9) (ha : a < 2 * sN) (hlt : hset < 512) (hb : ∀ k, hset.testBit k = true ↔ k < sN ∧ ¬ k = a / 2 ∧ (A (B + 100 * (2 * k) + t) = nI a ∨ A (B + 100 * (2 * k + 1) + t) = nI a)) : nI hset ||| (nI (wa_ A C nC sN S (a / 2) t) &&& (((1 : Int32) <<< (nI (a / 2) &&& 31)) ^^^ -1)) = nI (vo_ A C nC sN S B a t) := by
  rw [and_cl (a / 2) (by omega) _ (wa_lt h9), nI_or]
  congr 1
  refine Nat.eq_of_testBit_eq fun k => ?_
  rw [Nat.testBit_or, Nat.testBit_and]
  by_cases hk : k < sN
  · rw [cl_bit (a / 2) (by omega) k (by omega)]
    have e1 := hb k
    have e2 := wa_bit (A := A) (C := C) (nC := nC) (sN := sN) (S := S) (s := a / 2) (t := t) (k := k)
    have e3 := sc_bit (fun p => vch_ A C nC S B a p t) k sN
    unfold vo_
    rw [Bool.eq_iff_iff, Bool.or_eq_true, Bool.and_eq_true, decide_eq_true_eq, e1, e2, e3]
    unfold vch_
    constructor
    · rintro (⟨z1, z2, z3⟩ | ⟨⟨z1, z2⟩, z3⟩)
      · exact ⟨z1, fun y => z2 y.symm, z3.elim Or.inl (fun y => Or.inr (Or.inl y))⟩
      · exact ⟨z1, fun y => z3 y.symm, Or.inr (Or.inr z2)⟩
    · rintro ⟨z1, z2, z3⟩
      rcases z3 with z3 | z3 | z3
      · exact Or.inl ⟨z1, fun y => z2 y.symm, Or.inl z3⟩
      · exact Or.inl ⟨z1, fun y => z2 y.symm, Or.inr z3⟩
      · exact Or.inr ⟨⟨z1, z3⟩, fun y => z2 y.symm⟩
  · have f1 : hset.testBit k = false := by
      cases e : hset.testBit k with
      | false => rfl
      | true => exact absurd ((hb k).mp e).1 hk
    have f2 : (wa_ A C nC sN S (a / 2) t).testBit k = false := by
      cases e : (wa_ A C nC sN S (a / 2) t).testBit k with
      | false => rfl
      | true => exact absurd (wa_bit.mp e).1 hk
    have f3 : (vo_ A C nC sN S B a t).testBit k = false := by
      cases e : (vo_ A C nC sN S B a t).testBit k with
      | false => rfl
      | true => exact absurd ((sc_bit _ _ _).mp e).1 hk
    rw [f1, f2, f3]; rfl
def MS_ (h : AH) (sN nC : Nat) : Prop := MI h ∧ hp_I h 241 4 = nI sN ∧ sv_ok (hp_I h 243) sN ∧ hp_I h 241 48 = nI nC ∧ cl_ok (ct_ h) nC sN
theorem MS_th {h : AH} {sN nC : Nat} (hS : MS_ h sN nC) : MS_ (th_ h) sN nC := by
  refine ⟨MI_th hS.1, hS.2.1, by rw [th_33]; exact hS.2.2.1, hS.2.2.2.1, ?_⟩
  have : ct_ (th_ h) = ct_ h := ct_e fun j _ => th_A (by omega)
  rw [this]; exact hS.2.2.2.2
theorem fr_ct {h h1 : AH} (hf : fr_ h h1) : ct_ h1 = ct_ h := ct_e fun j _ => hf.2.2.2.2 _ (Or.inr (by omega))
theorem th_ct {h : AH} : ct_ (th_ h) = ct_ h := ct_e fun j _ => th_A (by omega)
theorem fr_33 {h h1 : AH} (hf : fr_ h h1) : hp_I h1 243 = hp_I h 243 := hf.2.2.2.2 _ (Or.inl (by decide))
theorem fr_31 {h h1 : AH} (hf : fr_ h h1) : hp_I h1 241 = hp_I h 241 := hf.2.2.2.2 _ (Or.inl (by decide))
theorem fr_rf (h : AH) : fr_ h h := ⟨rfl, rfl, rfl, rfl, fun _ _ => rfl⟩
theorem fr_tr {h h1 h2 : AH} (a : fr_ h h1) (b : fr_ h1 h2) : fr_ h h2 := ⟨b.1.trans a.1, b.2.1.trans a.2.1, b.2.2.1.trans a.2.2.1, b.2.2.2.1.trans a.2.2.2.1, fun p hp => (b.2.2.2.2 p hp).trans (a.2.2.2.2 p hp)⟩
theorem MS_fr {h h1 : AH} {sN nC : Nat} (hS : MS_ h sN nC) (hf : fr_ h h1) : MS_ h1 sN nC := by
  refine ⟨MI_of hS.1 (fun p _ _ => by rw [hf.2.1]) (fun k => by rw [hf.2.2.1]), by rw [fr_31 hf]; exact hS.2.1, by rw [fr_33 hf]; exact hS.2.2.1, by rw [fr_31 hf]; exact hS.2.2.2.1, ?_⟩
  rw [fr_ct hf]; exact hS.2.2.2.2
/-- what is laid, read -/
theorem LY_free {h h1 : AH} {nC sN a t : Nat} {S : Int32} (hL : LY_ h nC sN S h1) (ha : a < 2 * sN) (ht : t < 100) : hp_I h1 251 (100 * a + t) = b2c (free_ (hp_I h 243) (ct_ h) nC sN S a t) := hL.2 t ht 6 (by decide) a ha
theorem LY_tied {h h1 : AH} {nC sN a t : Nat} {S : Int32} (hL : LY_ h nC sN S h1) (ha : a < 2 * sN) (ht : t < 100) : hp_I h1 252 (100 * a + t) = b2c (tied_ (ct_ h) nC S a t) := hL.2 t ht 7 (by decide) a ha
theorem LY_wat {h h1 : AH} {nC sN s t : Nat} {S : Int32} (hL : LY_ h nC sN S h1) (hs : s ≤ sN) (ht : t < 100) : hp_I h1 247 (100 * s + t) = nI (wa_ (hp_I h 243) (ct_ h) nC sN S s t) := hL.2 t ht 2 (by decide) s (by show s < sN + 1; omega)
theorem LY_eye {h h1 : AH} {nC sN s t : Nat} {S : Int32} (hL : LY_ h nC sN S h1) (hs : s ≤ sN) (ht : t < 100) : hp_I h1 246 (100 * s + t) = nI (sb_ (fun p => eyes_ (hp_I h 243) (ct_ h) nC S p t = nI s) sN) := hL.2 t ht 1 (by decide) s (by show s < sN + 1; omega)
theorem LY_held {h h1 : AH} {nC sN a t : Nat} {S : Int32} (hL : LY_ h nC sN S h1) (ha : a < 2 * sN) (ht : t < 100) : hp_I h1 249 (100 * a + t) = nI (hb_ (hp_I h 243) t a (2 * sN)) := hL.2 t ht 4 (by decide) a ha
theorem LY_lit {h h1 : AH} {nC sN t : Nat} {S : Int32} (hL : LY_ h nC sN S h1) (ht : t < 100) : hp_I h1 245 t = li_ (hp_I h 243) (ct_ h) S t nC := by
  have := hL.2 t ht 0 (by decide) 0 (by show 0 < 1; decide)
  rw [show 100 * 0 + t = t by omega] at this
  exact this
theorem LY_ruled {h h1 : AH} {nC sN t : Nat} {S : Int32} (hL : LY_ h nC sN S h1) (ht : t < 100) : hp_I h1 250 t = nI (sb_ (fun p => ¬ rul_ (ct_ h) S p t nC = -1) sN) := by
  have := hL.2 t ht 5 (by decide) 0 (by show 0 < 1; decide)
  rw [show 100 * 0 + t = t by omega] at this
  exact this
theorem hb_k {A : Nat → Int32} {sN t a k : Nat} (hv : sv_ok A sN) (ha : a < 2 * sN) (ht : t < 100) : (hb_ A t a (2 * sN)).testBit k = true ↔ k < sN ∧ ¬ k = a / 2 ∧ (A (2870 + 100 * (2 * k) + t) = nI a ∨ A (2870 + 100 * (2 * k + 1) + t) = nI a) := by
  have h9 := (sv_s hv).2
  rw [hb_bit]
  constructor
  · rintro ⟨j, h1, h2, h3⟩
    refine ⟨by omega, fun e => ?_, ?_⟩
    · rcases sv_truly (a := j) hv (by omega) ht with z | ⟨q, z1, z2, z3⟩
      · rw [z] at h3; exact nI_ne1 (a := a) (by omega) h3.symm
      · rw [z3] at h3
        have := (nI_eq (by omega) (by omega)).mp h3
        omega
    · rcases (show j = 2 * k ∨ j = 2 * k + 1 by omega) with e | e <;> subst e
      · exact Or.inl h3
      · exact Or.inr h3
  · rintro ⟨h1, h2, h3 | h3⟩
    · exact ⟨2 * k, by omega, by omega, h3⟩
    · exact ⟨2 * k + 1, by omega, by omega, h3⟩
theorem LY_vou {h h1 : AH} {nC sN a t : Nat} {S : Int32} (hv : sv_ok (hp_I h 243) sN) (hL : LY_ h nC sN S h1) (ha : a < 2 * sN) (ht : t < 100) : hp_I h1 248 (100 * a + t) = nI (vo_ (hp_I h 243) (ct_ h) nC sN S 2870 a t) := by
  have e : hp_I h1 248 (100 * a + t) = _ := hL.2 t ht 3 (by decide) a ha
  rw [e]
  exact vo_eq (sv_s hv).2 ha (hb_lt _ _ _ _ (by have := (sv_s hv).2; omega)) (fun k => hb_k hv ha ht)
theorem c_lays {G : Gv} {h : AH} {sN nC : Nat} (hS : MS_ h sN nC) (S : Int32) : Ctr G 4 yX4_lays cX4_lays 5 none [.ref 241, .int S] h 0 0 (fun r h1 => r = none ∧ LY_ h nC sN S h1) := c_X4_lays hS.1 hS.2.1 hS.2.2.1 hS.2.2.2.1 hS.2.2.2.2 S
theorem rt_c {P : Prop} : rt_ok (some .boolean) (some (.int (b2c P))) := by
  rcases b2c_01 P with h | h <;> rw [h] <;> rfl
