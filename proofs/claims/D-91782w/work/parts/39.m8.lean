set_option maxRecDepth 100000
def SP_ : List Nat := [245, 246, 247, 248, 249, 250, 251, 252, 260, 261, 262, 269, 272]
def SF_ : List Nat := [0, 23, 24, 25, 26, 27, 28, 29, 30, 31, 32, 36, 37, 38, 39, 40, 41, 47, 60, 61]
/-- the reference's lasting data are the same -/
def fp_ (h h' : AH) : Prop := hp_n h' = hp_n h ∧ hp_K h' = hp_K h ∧ hp_R h' = hp_R h ∧ (∀ p, p ∉ SP_ → p ≠ 241 → hp_I h' p = hp_I h p ∧ hp_L h' p = hp_L h p) ∧ ∀ f, f ∉ SF_ → hp_I h' 241 f = hp_I h 241 f
theorem fp_rf (h : AH) : fp_ h h := ⟨rfl, rfl, rfl, fun _ _ _ => ⟨rfl, rfl⟩, fun _ _ => rfl⟩
theorem fp_tr {h h1 h2 : AH} (a : fp_ h h1) (b : fp_ h1 h2) : fp_ h h2 := ⟨b.1.trans a.1, b.2.1.trans a.2.1, b.2.2.1.trans a.2.2.1, fun p h1 h2 => ⟨(b.2.2.2.1 p h1 h2).1.trans (a.2.2.2.1 p h1 h2).1, (b.2.2.2.1 p h1 h2).2.trans (a.2.2.2.1 p h1 h2).2⟩, fun f hf => (b.2.2.2.2 f hf).trans (a.2.2.2.2 f hf)⟩
theorem fp_fr {h h1 : AH} (a : fr_ h h1) : fp_ h h1 := ⟨a.1, a.2.1, a.2.2.1, fun p hp _ => ⟨a.2.2.2.2 p (by
    rcases Nat.lt_or_ge p 245 with z | z
    · exact Or.inl z
    · rcases Nat.lt_or_ge 252 p with y | y
      · exact Or.inr y
      · exact absurd (by rcases (show p = 245 ∨ p = 246 ∨ p = 247 ∨ p = 248 ∨ p = 249 ∨ p = 250 ∨ p = 251 ∨ p = 252 by omega) with e | e | e | e | e | e | e | e <;> subst e <;> decide) hp), by rw [a.2.2.2.1]⟩, fun f _ => by rw [a.2.2.2.2 241 (Or.inl (by decide))]⟩
theorem fp_th (h : AH) : fp_ h (th_ h) := ⟨rfl, rfl, rfl, fun p _ hp => ⟨th_A hp, rfl⟩, fun f hf => th_I (fun e => hf (by rw [e]; decide))⟩
theorem fp_f {h h1 : AH} {f : Nat} {v : Int32} (a : fp_ h h1) (hf : f ∈ SF_) : fp_ h (up_I h1 241 f v) := ⟨a.1, a.2.1, a.2.2.1, fun p h1 h2 => ⟨by rw [II_n h2]; exact (a.2.2.2.1 p h1 h2).1, (a.2.2.2.1 p h1 h2).2⟩, fun g hg => by rw [hp_I_I, if_neg (fun z => hg (by rw [z.2]; exact hf))]; exact a.2.2.2.2 g hg⟩
theorem fp_p {h h1 : AH} {p k : Nat} {v : Int32} (a : fp_ h h1) (hp : p ∈ SP_) : fp_ h (up_I h1 p k v) := ⟨a.1, a.2.1, a.2.2.1, fun q h1 h2 => ⟨by rw [II_n (fun e => h1 (by rw [e]; exact hp))]; exact (a.2.2.2.1 q h1 h2).1, (a.2.2.2.1 q h1 h2).2⟩, fun g hg => by rw [hp_I_I, if_neg (fun z => by rw [← z.1] at hp; exact absurd hp (by decide))]; exact a.2.2.2.2 g hg⟩
theorem fp_33 {h h1 : AH} (a : fp_ h h1) : hp_I h1 243 = hp_I h 243 := (a.2.2.2.1 243 (by decide) (by decide)).1
theorem fp_A {h h1 : AH} (a : fp_ h h1) (p : Nat) (hp : p ∉ SP_) (h3 : p ≠ 241) : hp_I h1 p = hp_I h p := (a.2.2.2.1 p hp h3).1
theorem fp_I {h h1 : AH} (a : fp_ h h1) (f : Nat) (hf : f ∉ SF_) : hp_I h1 241 f = hp_I h 241 f := a.2.2.2.2 f hf
theorem fp_m {h h1 : AH} (a : fp_ h h1) (hm : MI h) : MI h1 := MI_of hm (fun p _ _ => by rw [a.2.1]) (fun k => by rw [a.2.2.1])
theorem SP_c {j : Nat} (hj : j < 6) : 263 + j ∉ SP_ ∧ 263 + j ≠ 241 := ⟨by rcases (show j = 0 ∨ j = 1 ∨ j = 2 ∨ j = 3 ∨ j = 4 ∨ j = 5 by omega) with e | e | e | e | e | e <;> subst e <;> decide, by omega⟩
/-- a choice -/
noncomputable def cf_ {α : Type} (P : Prop) (x y : α) : α := @ite _ P (Classical.propDecidable P) x y
theorem cf_t {α : Type} {P : Prop} {x y : α} (h : P) : cf_ P x y = x := @if_pos P (Classical.propDecidable P) h _ _ _
theorem cf_f {α : Type} {P : Prop} {x y : α} (h : ¬ P) : cf_ P x y = y := @if_neg P (Classical.propDecidable P) h _ _ _
theorem cf_b {P : Prop} : cf_ P (1 : Int32) 0 = b2c P := rfl
/-- an answer and a heap, of a heap that differs in passing things alone -/
def Pf (h : AH) (F : AH → Int32 × AH) : Option Value → AH → Prop := fun r h1 => ∃ hx, fp_ h hx ∧ r = some (.int (F hx).1) ∧ h1 = (F hx).2
def sw_ (A : Nat → Int32) (C : Nat → Nat → Int32) (nC : Nat) (S : Int32) (m p : Nat) : Prop := ¬ (A (4680 + 5 * m)).toNatClampNeg / 2 = p ∧ (see_ A C nC S p (A (4680 + 5 * m + 2)) (A (4680 + 5 * m + 3)).toNatClampNeg ∨ see_ A C nC S p (A (4680 + 5 * m + 4)) (A (4680 + 5 * m + 3)).toNatClampNeg)
def mvbad_ (A : Nat → Int32) (C : Nat → Nat → Int32) (nC sN : Nat) (a th x : Nat) (s : Nat) : Prop := (0 < nMov A ∧ nI s < A (4680 + 5 * (nMov A - 1) + 3)) ∨ ¬ free_ A C nC sN 0 a s ∨ wh_ A th 100 (nMov A) = nI x ∨ ¬ rc_ sN (a / 2) (wh_ A th 100 (nMov A)).toNatClampNeg ∨ ¬ rc_ sN (a / 2) x
def up_mov (h : AH) (k : Nat) (a th x s y : Int32) : AH := up_I (up_I (up_I (up_I (up_I (up_I h 243 (4680 + 5 * k) a) 243 (4680 + 5 * k + 1) th) 243 (4680 + 5 * k + 2) x) 243 (4680 + 5 * k + 3) s) 243 (4680 + 5 * k + 4) y) 243 4882 (nI (k + 1))
noncomputable def sp_move (h : AH) (sN nC : Nat) (a th x s : Int32) (hx : AH) : Int32 × AH :=
  cf_ (¬ ((0 ≤ a ∧ a < 2 * hp_I h 241 4) ∧ (0 ≤ th ∧ th < hp_I h 243 4881) ∧ (0 ≤ x ∧ x ≤ hp_I h 241 4))) (-1, rf_ hx 1) (cf_ (¬ (0 ≤ s ∧ s ≤ 99)) (-1, rf_ hx 2) (cf_ (nMov (hp_I h 243) = 40) (-1, rf_ hx 3)
  (cf_ (mvbad_ (hp_I h 243) (ct_ h) nC sN a.toNatClampNeg th.toNatClampNeg x.toNatClampNeg s.toNatClampNeg) (-1, rf_ hx 5)
  (nI (nMov (hp_I h 243)), up_mov hx (nMov (hp_I h 243)) a th x s (wh_ (hp_I h 243) th.toNatClampNeg 100 (nMov (hp_I h 243)))))))
theorem wh_in {A : Nat → Int32} {sN th : Nat} {s : Int32} (hv : sv_ok A sN) (ht : th < nLaid A) : ∀ n, n ≤ nMov A → in_ (wh_ A th s n) (sN + 1)
  | 0, _ => sv_thing hv ht
  | n + 1, hn => by
    rw [wh_s]
    split
    · exact (sv_move hv (m := n) (by omega)).2.2.1
    · exact wh_in hv ht n (by omega)
theorem c_X4_sawIt {G : Gv} {h0 h : AH} {sN nC : Nat} {S : Int32} (hS : MS_ h0 sN nC) (hL : LY_ h0 nC sN S h) {m p : Nat} (hmm : m < nMov (hp_I h0 243)) (hp : p < sN) : Ctr G 2 yX4_sawIt cX4_sawIt 4 (some .boolean) [.ref 241, .int (nI m), .int (nI p)] h 0 0 (Pu h (.int (b2c (sw_ (hp_I h0 243) (ct_ h0) nC S m p)))) := by
  refine ctr_of (own := RX4) (nm := "sawIt") (by decide) (Nat.le_of_ble_eq_true rfl) ?_
  have hm : MI h := (MS_fr hS hL.1).1
  have hv := hS.2.2.1
  have h3 := sv_s hv
  have hM := (sv_mov hv).1
  obtain ⟨⟨a, ha, ea⟩, -, ⟨x, hx, ex⟩, ⟨t, ht, et⟩, ⟨y, hy, ey⟩⟩ := sv_move hv hmm
  have ea9 : hp_I h 243 (4680 + 5 * m + 0) = nI a := by rw [fr_33 hL.1]; exact ea
  have ex9 : hp_I h 243 (4680 + 5 * m + 2) = nI x := by rw [fr_33 hL.1]; exact ex
  have et9 : hp_I h 243 (4680 + 5 * m + 3) = nI t := by rw [fr_33 hL.1]; exact et
  have ey9 : hp_I h 243 (4680 + 5 * m + 4) = nI y := by rw [fr_33 hL.1]; exact ey
  have hW : wa_ (hp_I h0 243) (ct_ h0) nC sN S x t ||| wa_ (hp_I h0 243) (ct_ h0) nC sN S y t < 2 ^ 31 := Nat.lt_of_lt_of_le (Nat.or_lt_two_pow (n := 9) (wa_lt h3.2) (wa_lt h3.2)) (by decide)
  have key : (nI (wa_ (hp_I h0 243) (ct_ h0) nC sN S x t ||| wa_ (hp_I h0 243) (ct_ h0) nC sN S y t) >>> (nI p &&& 31)) &&& 1 = 1 ↔ (p < sN ∧ see_ (hp_I h0 243) (ct_ h0) nC S p (nI x) t) ∨ (p < sN ∧ see_ (hp_I h0 243) (ct_ h0) nC S p (nI y) t) := by rw [has_bit hW (by omega), Nat.testBit_or, Bool.or_eq_true, wa_bit, wa_bit]
  refine v_aload_n dX4_sawIt_0 rfl rfl ?_
  refine v_getR fX4_33 dX4_sawIt_1 (mK_obj hm) (mR_watched hm) ?_ fcA_I
  refine v_bipush (v := 100) dX4_sawIt_4 (by decide) ?_
  refine v_aload_n dX4_sawIt_6 rfl rfl ?_
  refine v_iload_n dX4_sawIt_7 rfl rfl ?_
  refine v_iconst (v := nI 2) dX4_sawIt_8 (by decide) ?_
  refine v_pV mtX4_moveOf q1878 q1880 qs70 rfl (by decide) dX4_sawIt_9 (c_X4_moveOf hm ?_) (mK_obj hm) (by decide) ?_
  · omega
  rw [ex9]
  refine v_imul dX4_sawIt_12 ?_
  refine v_aload_n dX4_sawIt_13 rfl rfl ?_
  refine v_iload_n dX4_sawIt_14 rfl rfl ?_
  refine v_iconst (v := nI 3) dX4_sawIt_15 (by decide) ?_
  refine v_pV mtX4_moveOf q1878 q1880 qs70 rfl (by decide) dX4_sawIt_16 (c_X4_moveOf hm ?_) (mK_obj hm) (by decide) ?_
  · omega
  rw [et9]
  refine v_iadd dX4_sawIt_19 ?_
  refine v_iald dX4_sawIt_20 (mK_watched hm) (ix_add (ix_mul (ix_lit _) rfl) rfl) (by first | assumption | omega) ?_
  rw [LY_wat hL (by omega) ht]
  refine v_aload_n dX4_sawIt_21 rfl rfl ?_
  refine v_getR fX4_33 dX4_sawIt_22 (mK_obj hm) (mR_watched hm) ?_ fcA_I
  refine v_bipush (v := 100) dX4_sawIt_25 (by decide) ?_
  refine v_aload_n dX4_sawIt_27 rfl rfl ?_
  refine v_iload_n dX4_sawIt_28 rfl rfl ?_
  refine v_iconst (v := nI 4) dX4_sawIt_29 (by decide) ?_
  refine v_pV mtX4_moveOf q1878 q1880 qs70 rfl (by decide) dX4_sawIt_30 (c_X4_moveOf hm ?_) (mK_obj hm) (by decide) ?_
  · omega
  rw [ey9]
  refine v_imul dX4_sawIt_33 ?_
  refine v_aload_n dX4_sawIt_34 rfl rfl ?_
  refine v_iload_n dX4_sawIt_35 rfl rfl ?_
  refine v_iconst (v := nI 3) dX4_sawIt_36 (by decide) ?_
  refine v_pV mtX4_moveOf q1878 q1880 qs70 rfl (by decide) dX4_sawIt_37 (c_X4_moveOf hm ?_) (mK_obj hm) (by decide) ?_
  · omega
  rw [et9]
  refine v_iadd dX4_sawIt_40 ?_
  refine v_iald dX4_sawIt_41 (mK_watched hm) (ix_add (ix_mul (ix_lit _) rfl) rfl) (by first | assumption | omega) ?_
  rw [LY_wat hL (by omega) ht]
  refine v_ior dX4_sawIt_42 ?_
  rw [nI_or]
  refine v_istore_n dX4_sawIt_43 rfl (by decide) ?_
  refine v_aload_n dX4_sawIt_44 rfl rfl ?_
  refine v_iload_n dX4_sawIt_45 rfl rfl ?_
  refine v_iconst (v := nI 0) dX4_sawIt_46 (by decide) ?_
  refine v_pV mtX4_moveOf q1878 q1880 qs70 rfl (by decide) dX4_sawIt_47 (c_X4_moveOf hm ?_) (mK_obj hm) (by decide) ?_
  · omega
  rw [ea9]
  refine v_iconst (v := 2) dX4_sawIt_50 (by decide) ?_
  refine v_idiv dX4_sawIt_51 (by decide) ?_
  rw [show (nI a / 2 : Int32) = nI (a / 2) from pk_div (d := 2) (by omega) (by decide) (by decide)]
  refine v_iload_n dX4_sawIt_52 rfl rfl ?_
  refine v_icmp_eq (tgt := 68) dX4_sawIt_53 (by decide) (fun b53 => ?_) (fun b53 => ?_)
  · skip
    refine v_iconst (v := 0) dX4_sawIt_68 (by decide) ?_
    refine v_reti dX4_sawIt_69 rfl (Pu_i ?_)
    (try simp only [b2i_0, b2i_n0, b2c_0, b2c_n0, Classical.not_not] at *)
    rw [nI_eq (by omega) (by omega)] at b53
    unfold sw_
    rw [ea, ex, ey, et, nI_clamp (by omega), nI_clamp (by omega)]
    (try rw [key] at b61)
    first | exact (b2c_t ⟨b53, b61.elim (fun z => Or.inl z.2) (fun z => Or.inr z.2)⟩).symm | exact (b2c_f (fun z => b61 (z.2.elim (fun y => Or.inl ⟨hp, y⟩) (fun y => Or.inr ⟨hp, y⟩)))).symm | exact (b2c_f (fun z => z.1 b53)).symm
  · skip
    refine v_iload_n dX4_sawIt_56 rfl rfl ?_
    refine v_iload_n dX4_sawIt_57 rfl rfl ?_
    refine v_pS mtX4_has q1859 q1860 dX4_sawIt_58 (c_X4_has _ _) (by decide) ?_
    refine v_if_eq (tgt := 68) dX4_sawIt_61 (by decide) (fun b61 => ?_) (fun b61 => ?_)
    · skip
      refine v_iconst (v := 0) dX4_sawIt_68 (by decide) ?_
      refine v_reti dX4_sawIt_69 rfl (Pu_i ?_)
      (try simp only [b2i_0, b2i_n0, b2c_0, b2c_n0, Classical.not_not] at *)
      rw [nI_eq (by omega) (by omega)] at b53
      unfold sw_
      rw [ea, ex, ey, et, nI_clamp (by omega), nI_clamp (by omega)]
      (try rw [key] at b61)
      first | exact (b2c_t ⟨b53, b61.elim (fun z => Or.inl z.2) (fun z => Or.inr z.2)⟩).symm | exact (b2c_f (fun z => b61 (z.2.elim (fun y => Or.inl ⟨hp, y⟩) (fun y => Or.inr ⟨hp, y⟩)))).symm | exact (b2c_f (fun z => z.1 b53)).symm
    · skip
      refine v_iconst (v := 1) dX4_sawIt_64 (by decide) ?_
      refine v_goto (tgt := 69) dX4_sawIt_65 (by decide) ?_
      refine v_reti dX4_sawIt_69 rfl (Pu_i ?_)
      (try simp only [b2i_0, b2i_n0, b2c_0, b2c_n0, Classical.not_not] at *)
      rw [nI_eq (by omega) (by omega)] at b53
      unfold sw_
      rw [ea, ex, ey, et, nI_clamp (by omega), nI_clamp (by omega)]
      (try rw [key] at b61)
      first | exact (b2c_t ⟨b53, b61.elim (fun z => Or.inl z.2) (fun z => Or.inr z.2)⟩).symm | exact (b2c_f (fun z => b61 (z.2.elim (fun y => Or.inl ⟨hp, y⟩) (fun y => Or.inr ⟨hp, y⟩)))).symm | exact (b2c_f (fun z => z.1 b53)).symm

/-- persons with a hand that seems to hold a, of the first n hands -/
def se_ (A : Nat → Int32) (t a : Nat) : Nat → Nat
  | 0 => 0
  | n + 1 => if A (1070 + 100 * n + t) = nI a then se_ A t a n ||| 2 ^ (n / 2) else se_ A t a n
theorem se_s (A : Nat → Int32) (t a n : Nat) : se_ A t a (n + 1) = if A (1070 + 100 * n + t) = nI a then se_ A t a n ||| 2 ^ (n / 2) else se_ A t a n := rfl
theorem se_lt (A : Nat → Int32) (t a : Nat) : ∀ n, n ≤ 18 → se_ A t a n < 2 ^ 9
  | 0, _ => (by show 0 < 512; omega)
  | n + 1, hn => by
    rw [se_s]
    split
    · exact Nat.or_lt_two_pow (se_lt A t a n (by omega)) (Nat.pow_lt_pow_right (by decide) (by omega))
    · exact se_lt A t a n (by omega)
theorem se_bit (A : Nat → Int32) (t a k : Nat) : ∀ n, (se_ A t a n).testBit k = true ↔ ∃ j, j < n ∧ j / 2 = k ∧ A (1070 + 100 * j + t) = nI a
  | 0 => by simp [se_]
  | n + 1 => by
    rw [se_s]
    split
    · next z =>
      rw [Nat.testBit_or, Bool.or_eq_true, se_bit A t a k n, Nat.testBit_two_pow, decide_eq_true_eq]
      constructor
      · rintro (⟨j, h1, h2⟩ | h)
        · exact ⟨j, by omega, h2⟩
        · exact ⟨n, by omega, h, z⟩
      · rintro ⟨j, h1, h2, h3⟩
        by_cases e : j = n
        · subst e; exact Or.inr h2
        · exact Or.inl ⟨j, by omega, h2, h3⟩
    · next z =>
      rw [se_bit A t a k n]
      constructor
      · rintro ⟨j, h1, h2⟩
        exact ⟨j, by omega, h2⟩
      · rintro ⟨j, h1, h2, h3⟩
        by_cases e : j = n
        · subst e; exact absurd h3 z
        · exact ⟨j, by omega, h2, h3⟩
theorem se_vo {A : Nat → Int32} {C : Nat → Nat → Int32} {nC sN a t : Nat} {S : Int32} (h9 : sN ≤ 9) (ha : a < 2 * sN) : nI (wa_ A C nC sN S (a / 2) t ||| se_ A t a (2 * sN)) &&& (((1 : Int32) <<< (nI (a / 2) &&& 31)) ^^^ -1) = nI (vo_ A C nC sN S 1070 a t) := by
  have l1 : wa_ A C nC sN S (a / 2) t ||| se_ A t a (2 * sN) < 512 := Nat.or_lt_two_pow (n := 9) (wa_lt h9) (se_lt _ _ _ _ (by omega))
  rw [and_cl (a / 2) (by omega) _ l1]
  congr 1
  refine Nat.eq_of_testBit_eq fun k => ?_
  rw [Nat.testBit_and, Nat.testBit_or]
  have e1 := wa_bit (A := A) (C := C) (nC := nC) (sN := sN) (S := S) (s := a / 2) (t := t) (k := k)
  have e2 := se_bit A t a k (2 * sN)
  have e3 := sc_bit (fun p => vch_ A C nC S 1070 a p t) k sN
  unfold vo_
  rw [Bool.eq_iff_iff, Bool.and_eq_true, Bool.or_eq_true, e1, e2, e3]
  by_cases hk : k < sN
  · rw [cl_bit (a / 2) (by omega) k (by omega), decide_eq_true_eq]
    unfold vch_
    constructor
    · rintro ⟨z1 | ⟨j, y1, y2, y3⟩, z2⟩
      · exact ⟨hk, fun y => z2 y.symm, Or.inr (Or.inr z1.2)⟩
      · refine ⟨hk, fun y => z2 y.symm, ?_⟩
        rcases (show j = 2 * k ∨ j = 2 * k + 1 by omega) with e | e <;> subst e
        · exact Or.inl y3
        · exact Or.inr (Or.inl y3)
    · rintro ⟨z1, z2, z3⟩
      refine ⟨?_, fun y => z2 y.symm⟩
      rcases z3 with z3 | z3 | z3
      · exact Or.inr ⟨2 * k, by omega, by omega, z3⟩
      · exact Or.inr ⟨2 * k + 1, by omega, by omega, z3⟩
      · exact Or.inl ⟨hk, z3⟩
  · constructor
    · rintro ⟨z1 | ⟨j, y1, y2, y3⟩, z2⟩
      · exact absurd z1.1 hk
      · omega
    · rintro ⟨z1, -⟩
      exact absurd z1 hk
theorem c_X4_sayers {G : Gv} {h0 h : AH} {sN nC : Nat} {S : Int32} (hS : MS_ h0 sN nC) (hL : LY_ h0 nC sN S h) {a t : Nat} (ha : a < 2 * sN) (ht : t < 100) : Ctr G 2 yX4_sayers cX4_sayers 5 (some .int) [.ref 241, .int (nI a), .int (nI t)] h 0 0 (Pu h (.int (nI (vo_ (hp_I h0 243) (ct_ h0) nC sN S 1070 a t)))) := by
  refine ctr_of (own := RX4) (nm := "sayers") (by decide) (Nat.le_of_ble_eq_true rfl) ?_
  have hm : MI h := (MS_fr hS hL.1).1
  have hv := hS.2.2.1
  have h3 := sv_s hv
  have hs9 : hp_I h 241 4 = nI sN := by rw [fr_31 hL.1]; exact hS.2.1
  refine v_aload_n dX4_sayers_0 rfl rfl ?_
  refine v_getR fX4_33 dX4_sayers_1 (mK_obj hm) (mR_watched hm) ?_ fcA_I
  refine v_bipush (v := 100) dX4_sayers_4 (by decide) ?_
  refine v_iload_n dX4_sayers_6 rfl rfl ?_
  refine v_iconst (v := 2) dX4_sayers_7 (by decide) ?_
  refine v_idiv dX4_sayers_8 (by decide) ?_
  rw [show (nI a / 2 : Int32) = nI (a / 2) from pk_div (d := 2) (by omega) (by decide) (by decide)]
  refine v_imul dX4_sayers_9 ?_
  refine v_iload_n dX4_sayers_10 rfl rfl ?_
  refine v_iadd dX4_sayers_11 ?_
  refine v_iald dX4_sayers_12 (mK_watched hm) (ix_add (ix_mul (ix_lit _) rfl) rfl) (by first | assumption | omega) ?_
  rw [LY_wat hL (by omega) ht]
  refine v_istore_n dX4_sayers_13 rfl (by decide) ?_
  refine v_iconst (v := 0) dX4_sayers_14 (by decide) ?_
  refine v_istore dX4_sayers_15 (by decide) ?_
  refine v_loc2 (l' := [(0, .ref 241), (1, .int (nI a)), (2, .int (nI t)), (3, .int (nI (wa_ (hp_I h0 243) (ct_ h0) nC sN S (a / 2) t ||| se_ (hp_I h0 243) t a 0))), (4, .int (nI 0))]) (And.intro rfl (And.intro rfl (And.intro rfl (And.intro (by show some (Value.int (nI _)) = some (Value.int (nI (_ ||| 0))); rw [Nat.or_zero]) (And.intro rfl trivial))))) (v_lp1 (fun (k : Nat) => 2 * sN - k) (fun (k : Nat) => k ≤ 2 * sN) (fun (k : Nat) => [(0, .ref 241), (1, .int (nI a)), (2, .int (nI t)), (3, .int (nI (wa_ (hp_I h0 243) (ct_ h0) nC sN S (a / 2) t ||| se_ (hp_I h0 243) t a k))), (4, .int (nI k))]) (fun _ => []) (fun (k : Nat) => h) ?_ 0 (Nat.zero_le _))
  intro k hI IH
  refine v_iload dX4_sayers_17 rfl ?_
  refine v_iconst (v := 2) dX4_sayers_19 (by decide) ?_
  refine v_aload_n dX4_sayers_20 rfl rfl ?_
  refine v_getI fX4_24 dX4_sayers_21 (mK_obj hm) ?_
  rw [hs9]
  refine v_imul dX4_sayers_24 ?_
  rw [nI_2]
  refine v_icmp_ge (tgt := 63) dX4_sayers_25 (by decide) (fun b25 => ?_) (fun b25 => ?_)
  · skip
    rw [nI_leI (by omega) (by omega)] at b25
    have hk : 2 * sN = k := by omega
    subst hk
    refine v_iload_n dX4_sayers_63 rfl rfl ?_
    refine v_iconst (v := 1) dX4_sayers_64 (by decide) ?_
    refine v_iload_n dX4_sayers_65 rfl rfl ?_
    refine v_iconst (v := 2) dX4_sayers_66 (by decide) ?_
    refine v_idiv dX4_sayers_67 (by decide) ?_
    rw [show (nI a / 2 : Int32) = nI (a / 2) from pk_div (d := 2) (by omega) (by decide) (by decide)]
    refine v_ishl dX4_sayers_68 ?_
    refine v_iconst (v := (-1)) dX4_sayers_69 (by decide) ?_
    refine v_ixor dX4_sayers_70 ?_
    refine v_iand dX4_sayers_71 ?_
    exact v_reti dX4_sayers_72 rfl (Pu_i (se_vo h3.2 ha))
  · skip
    rw [nI_leI (by omega) (by omega)] at b25
    have hk : k < 2 * sN := by omega
    refine v_aload_n dX4_sayers_28 rfl rfl ?_
    refine v_getR fX4_17 dX4_sayers_29 (mK_obj hm) (mR_all hm) ?_ fcA_I
    refine v_sipush (v := 1070) dX4_sayers_32 (by decide) ?_
    refine v_bipush (v := 100) dX4_sayers_35 (by decide) ?_
    refine v_iload dX4_sayers_37 rfl ?_
    refine v_imul dX4_sayers_39 ?_
    refine v_iadd dX4_sayers_40 ?_
    refine v_iload_n dX4_sayers_41 rfl rfl ?_
    refine v_iadd dX4_sayers_42 ?_
    refine v_iald dX4_sayers_43 (mK_all hm) (ix_add (ix_add (ix_lit _) (ix_mul (ix_lit _) rfl)) rfl) (by first | assumption | omega) ?_
    rw [fr_33 hL.1]
    refine v_iload_n dX4_sayers_44 rfl rfl ?_
    refine v_icmp_ne (tgt := 57) dX4_sayers_45 (by decide) (fun b45 => ?_) (fun b45 => ?_)
    · skip
      refine v_iinc dX4_sayers_57 rfl (by first | with_reducible exact nI_inc _ | exact rfl) (by decide) ?_
      refine v_goto (tgt := 17) dX4_sayers_60 (by decide) ?_
      refine v_loc2 (l' := [(0, .ref 241), (1, .int (nI a)), (2, .int (nI t)), (3, .int (nI (wa_ (hp_I h0 243) (ct_ h0) nC sN S (a / 2) t ||| se_ (hp_I h0 243) t a (k + 1)))), (4, .int (nI (k + 1)))]) (And.intro rfl (And.intro rfl (And.intro rfl (And.intro (congrArg (fun z => some (Value.int z)) ?_) (And.intro rfl trivial))))) (IH (k + 1) (by omega) (by omega))
      first | (rw [se_s, if_pos (Classical.not_not.mp b45), Nat.or_assoc]) | (rw [se_s, if_pos b45, Nat.or_assoc]) | (rw [se_s, if_neg b45])
    · skip
      refine v_iload_n dX4_sayers_48 rfl rfl ?_
      refine v_iconst (v := 1) dX4_sayers_49 (by decide) ?_
      refine v_iload dX4_sayers_50 rfl ?_
      refine v_iconst (v := 2) dX4_sayers_52 (by decide) ?_
      refine v_idiv dX4_sayers_53 (by decide) ?_
      rw [show (nI k / 2 : Int32) = nI (k / 2) from pk_div (d := 2) (by omega) (by decide) (by decide)]
      refine v_ishl dX4_sayers_54 ?_
      refine v_ior dX4_sayers_55 ?_
      rw [or_sh (by omega)]
      refine v_istore_n dX4_sayers_56 rfl (by decide) ?_
      refine v_iinc dX4_sayers_57 rfl (by first | with_reducible exact nI_inc _ | exact rfl) (by decide) ?_
      refine v_goto (tgt := 17) dX4_sayers_60 (by decide) ?_
      refine v_loc2 (l' := [(0, .ref 241), (1, .int (nI a)), (2, .int (nI t)), (3, .int (nI (wa_ (hp_I h0 243) (ct_ h0) nC sN S (a / 2) t ||| se_ (hp_I h0 243) t a (k + 1)))), (4, .int (nI (k + 1)))]) (And.intro rfl (And.intro rfl (And.intro rfl (And.intro (congrArg (fun z => some (Value.int z)) ?_) (And.intro rfl trivial))))) (IH (k + 1) (by omega) (by omega))
      first | (rw [se_s, if_pos (Classical.not_not.mp b45), Nat.or_assoc]) | (rw [se_s, if_pos b45, Nat.or_assoc]) | (rw [se_s, if_neg b45])

