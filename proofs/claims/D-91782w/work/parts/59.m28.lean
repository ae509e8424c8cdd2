set_option maxRecDepth 100000
/-- the hands of person q in a set -/
def dg_ (w q : Nat) : Nat := w / 4 ^ q % 4
def be_ (sN p q : Nat) : Prop := (p + 1) % sN = q ∨ (q + 1) % sN = p
/-- a person is at ease with those above -/
def vp_ (sN P w p : Nat) : Prop := dg_ w p = 0 ∨ (¬ dg_ w p = 3 ∧ P.testBit p = true ∧ ∀ q, p < q → q < sN → be_ sN p q → dg_ w q = 0)
def vr_ (sN P k w : Nat) : Prop := ∀ p, k ≤ p → p < sN → vp_ sN P w p
/-- how many of the sets from s on, n of them -/
noncomputable def gn_ (V : Nat → Prop) (s : Nat) : Nat → Nat
  | 0 => 0
  | n + 1 => gn_ V s n + (@ite _ (V (s + n)) (Classical.propDecidable _) 1 0)
noncomputable def pk_ (V : Nat → Prop) (s c : Nat) (i e : Int32) : Nat → Int32
  | 0 => e
  | n + 1 => cf_ (V (s + n) ∧ nI (c + gn_ V s n) = i) (nI (s + n)) (pk_ V s c i e n)
theorem gn_s (V : Nat → Prop) (s n : Nat) : gn_ V s (n + 1) = gn_ V s n + (@ite _ (V (s + n)) (Classical.propDecidable _) 1 0) := rfl
theorem pk_s (V : Nat → Prop) (s c : Nat) (i e : Int32) (n : Nat) : pk_ V s c i e (n + 1) = cf_ (V (s + n) ∧ nI (c + gn_ V s n) = i) (nI (s + n)) (pk_ V s c i e n) := rfl
theorem gn_add (V : Nat → Prop) (s m : Nat) : ∀ n, gn_ V s (m + n) = gn_ V s m + gn_ V (s + m) n
  | 0 => rfl
  | n + 1 => by rw [← Nat.add_assoc, gn_s, gn_add V s m n, gn_s, ← Nat.add_assoc s m n, Nat.add_assoc (gn_ V s m)]
theorem pk_add (V : Nat → Prop) (s c m : Nat) (i e : Int32) : ∀ n, pk_ V s c i e (m + n) = pk_ V (s + m) (c + gn_ V s m) i (pk_ V s c i e m) n
  | 0 => rfl
  | n + 1 => by rw [← Nat.add_assoc, pk_s, pk_add V s c m i e n, pk_s, gn_add]; simp only [Nat.add_assoc]
theorem gn_zero {V : Nat → Prop} {s : Nat} : ∀ n, (∀ j, j < n → ¬ V (s + j)) → gn_ V s n = 0
  | 0, _ => rfl
  | n + 1, h => by rw [gn_s, gn_zero n (fun j hj => h j (by omega)), if_neg (h n (by omega))]
theorem pk_zero {V : Nat → Prop} {s c : Nat} {i e : Int32} : ∀ n, (∀ j, j < n → ¬ V (s + j)) → pk_ V s c i e n = e
  | 0, _ => rfl
  | n + 1, h => by rw [pk_s, cf_f (fun z => h n (by omega) z.1), pk_zero n (fun j hj => h j (by omega))]
theorem p4 (p : Nat) : 0 < 4 ^ p := Nat.pow_pos (by decide)
/-- digits of a set of a block -/
theorem dg_lo {a p d j : Nat} (hd : d < 4) (hj : j < 4 ^ p) : dg_ (4 ^ (p + 1) * a + d * 4 ^ p + j) p = d := by
  unfold dg_
  have e : 4 ^ (p + 1) * a + d * 4 ^ p + j = j + 4 ^ p * (4 * a + d) := by rw [Nat.pow_succ, Nat.mul_add, Nat.mul_assoc, Nat.mul_comm d]; omega
  rw [e, Nat.add_mul_div_left _ _ (p4 p), Nat.div_eq_of_lt hj]
  omega
theorem dg_hi {a p d j q : Nat} (hd : d < 4) (hj : j < 4 ^ p) (hq : p < q) : dg_ (4 ^ (p + 1) * a + d * 4 ^ p + j) q = dg_ (4 ^ (p + 1) * a) q := by
  unfold dg_
  have hlt : d * 4 ^ p + j < 4 ^ (p + 1) := by
    have : d * 4 ^ p ≤ 3 * 4 ^ p := Nat.mul_le_mul_right _ (by omega)
    rw [Nat.pow_succ]; omega
  have e : 4 ^ q = 4 ^ (p + 1) * 4 ^ (q - (p + 1)) := by rw [← Nat.pow_add]; congr 1; omega
  rw [e, ← Nat.div_div_eq_div_mul, ← Nat.div_div_eq_div_mul, Nat.mul_div_cancel_left _ (p4 (p + 1)), show 4 ^ (p + 1) * a + d * 4 ^ p + j = (d * 4 ^ p + j) + 4 ^ (p + 1) * a by omega, Nat.add_mul_div_left _ _ (p4 (p + 1)), Nat.div_eq_of_lt hlt, Nat.zero_add]
theorem vp_hi {sN P a p d j q : Nat} (hd : d < 4) (hj : j < 4 ^ p) (hq : p < q) : vp_ sN P (4 ^ (p + 1) * a + d * 4 ^ p + j) q ↔ vp_ sN P (4 ^ (p + 1) * a) q := by
  unfold vp_
  rw [dg_hi hd hj hq]
  constructor
  · rintro (h | ⟨h1, h2, h3⟩)
    · exact Or.inl h
    · exact Or.inr ⟨h1, h2, fun r h4 h5 h6 => by rw [← dg_hi hd hj (Nat.lt_trans hq h4)]; exact h3 r h4 h5 h6⟩
  · rintro (h | ⟨h1, h2, h3⟩)
    · exact Or.inl h
    · exact Or.inr ⟨h1, h2, fun r h4 h5 h6 => by rw [dg_hi hd hj (Nat.lt_trans hq h4)]; exact h3 r h4 h5 h6⟩
def my_ (sN P s p : Nat) : Prop := P.testBit p = true ∧ ∀ q, p < q → q < sN → be_ sN p q → dg_ s q = 0
theorem vp_lo {sN P a p d j : Nat} (hd : d < 4) (hj : j < 4 ^ p) : vp_ sN P (4 ^ (p + 1) * a + d * 4 ^ p + j) p ↔ d = 0 ∨ (¬ d = 3 ∧ my_ sN P (4 ^ (p + 1) * a) p) := by
  unfold vp_ my_
  rw [dg_lo hd hj]
  constructor
  · rintro (h | ⟨h1, h2, h3⟩)
    · exact Or.inl h
    · exact Or.inr ⟨h1, h2, fun r h4 h5 h6 => by rw [← dg_hi hd hj h4]; exact h3 r h4 h5 h6⟩
  · rintro (h | ⟨h1, h2, h3⟩)
    · exact Or.inl h
    · exact Or.inr ⟨h1, h2, fun r h4 h5 h6 => by rw [dg_hi hd hj h4]; exact h3 r h4 h5 h6⟩
theorem vr_lo {sN P a p d : Nat} (hd : d < 4) (h : vr_ sN P (p + 1) (4 ^ (p + 1) * a)) (hm : d = 0 ∨ (¬ d = 3 ∧ my_ sN P (4 ^ (p + 1) * a) p)) : vr_ sN P p (4 ^ (p + 1) * a + d * 4 ^ p) := fun q h1 h2 => by
  have e := Nat.add_zero (4 ^ (p + 1) * a + d * 4 ^ p)
  rw [← e]
  rcases Nat.lt_or_ge p q with z | z
  · exact (vp_hi hd (p4 p) z).mpr (h q z h2)
  · rw [show q = p by omega]; exact (vp_lo hd (p4 p)).mpr hm
/-- a block is four blocks -/
theorem blk_gn (V : Nat → Prop) (s p : Nat) : gn_ V s (4 ^ (p + 1)) = gn_ V s (4 ^ p) + gn_ V (s + 4 ^ p) (4 ^ p) + gn_ V (s + 2 * 4 ^ p) (4 ^ p) + gn_ V (s + 3 * 4 ^ p) (4 ^ p) := by
  rw [show 4 ^ (p + 1) = 4 ^ p + (4 ^ p + (4 ^ p + 4 ^ p)) by rw [Nat.pow_succ]; omega, gn_add, gn_add, gn_add, show s + 4 ^ p + 4 ^ p = s + 2 * 4 ^ p by omega, show s + 2 * 4 ^ p + 4 ^ p = s + 3 * 4 ^ p by omega]
  omega
theorem blk_pk (V : Nat → Prop) (s c p : Nat) (i e : Int32) : pk_ V s c i e (4 ^ (p + 1)) = pk_ V (s + 3 * 4 ^ p) (c + gn_ V s (4 ^ p) + gn_ V (s + 4 ^ p) (4 ^ p) + gn_ V (s + 2 * 4 ^ p) (4 ^ p)) i (pk_ V (s + 2 * 4 ^ p) (c + gn_ V s (4 ^ p) + gn_ V (s + 4 ^ p) (4 ^ p)) i (pk_ V (s + 4 ^ p) (c + gn_ V s (4 ^ p)) i (pk_ V s c i e (4 ^ p)) (4 ^ p)) (4 ^ p)) (4 ^ p) := by
  rw [show 4 ^ (p + 1) = 4 ^ p + (4 ^ p + (4 ^ p + 4 ^ p)) by rw [Nat.pow_succ]; omega, pk_add, pk_add, pk_add, show s + 4 ^ p + 4 ^ p = s + 2 * 4 ^ p by omega, show s + 2 * 4 ^ p + 4 ^ p = s + 3 * 4 ^ p by omega]
/-- no set of a block where a hand may not be -/
theorem blk_no {sN P a p d : Nat} (hp : p < sN) (hd : d < 4) (h : ¬ (d = 0 ∨ (¬ d = 3 ∧ my_ sN P (4 ^ (p + 1) * a) p))) : ∀ j, j < 4 ^ p → ¬ vr_ sN P 0 (4 ^ (p + 1) * a + d * 4 ^ p + j) := fun j hj z => h ((vp_lo hd hj).mp (z p (Nat.zero_le _) hp))
theorem sh2_d : ∀ q, q < 9 → ((2 * nI q &&& 31).toBitVec.smod 32).toNat = 2 * q := by decide +kernel
theorem sh_dg {s q : Nat} (hs : s < 2 ^ 31) (hq : q < 9) : (nI s >>> (2 * nI q &&& 31)) &&& 3 = nI (dg_ s q) := by
  rw [pk_shrN hs _ (2 * q) (sh2_d q hq), show (3 : Int32) = nI 3 from rfl, nI_and]
  unfold dg_
  rw [Nat.pow_mul, show 3 = 2 ^ 2 - 1 from rfl, Nat.and_two_pow_sub_one_eq_mod]
theorem sh_41 : ∀ p, p < 9 → (1 : Int32) <<< (2 * nI p &&& 31) = nI (4 ^ p) := by decide +kernel
theorem sh_42 : ∀ p, p < 9 → (2 : Int32) <<< (2 * nI p &&& 31) = nI (2 * 4 ^ p) := by decide +kernel
theorem or_4 {a p d : Nat} (hd : d < 4) : 4 ^ (p + 1) * a ||| d * 4 ^ p = 4 ^ (p + 1) * a + d * 4 ^ p := by
  have hlt : d * 4 ^ p < 2 ^ (2 * (p + 1)) := by
    have : d * 4 ^ p ≤ 3 * 4 ^ p := Nat.mul_le_mul_right _ (by omega)
    rw [Nat.pow_mul, Nat.pow_succ (n := 2 ^ 2)]
    have := p4 p
    show d * 4 ^ p < 4 ^ p * 4
    omega
  have := Nat.two_pow_add_eq_or_of_lt hlt a
  rw [show 2 ^ (2 * (p + 1)) = 4 ^ (p + 1) from by rw [Nat.pow_mul]] at this
  exact this.symm
/-- two fields alone differ -/
def ez_ (h h' : AH) : Prop := hp_n h' = hp_n h ∧ hp_K h' = hp_K h ∧ hp_R h' = hp_R h ∧ hp_L h' = hp_L h ∧ (∀ p, p ≠ 241 → hp_I h' p = hp_I h p) ∧ ∀ f, f < 60 ∨ 61 < f → hp_I h' 241 f = hp_I h 241 f
theorem ez_rf (h : AH) : ez_ h h := ⟨rfl, rfl, rfl, rfl, fun _ _ => rfl, fun _ _ => rfl⟩
theorem ez_tr {h h1 h2 : AH} (a : ez_ h h1) (b : ez_ h1 h2) : ez_ h h2 := ⟨b.1.trans a.1, b.2.1.trans a.2.1, b.2.2.1.trans a.2.2.1, b.2.2.2.1.trans a.2.2.2.1, fun p h1 => (b.2.2.2.2.1 p h1).trans (a.2.2.2.2.1 p h1), fun f hf => (b.2.2.2.2.2 f hf).trans (a.2.2.2.2.2 f hf)⟩
theorem ez_f {h h1 : AH} {f : Nat} {v : Int32} (a : ez_ h h1) (hf : 60 ≤ f ∧ f ≤ 61) : ez_ h (up_I h1 241 f v) := ⟨a.1, a.2.1, a.2.2.1, a.2.2.2.1, fun p hp => by rw [II_n hp]; exact a.2.2.2.2.1 p hp, fun g hg => by rw [hp_I_I, if_neg (fun z => by omega)]; exact a.2.2.2.2.2 g hg⟩
theorem ez_m {h h1 : AH} (a : ez_ h h1) (hm : MI h) : MI h1 := MI_of hm (fun p _ _ => by rw [a.2.1]) (fun k => by rw [a.2.2.1])
theorem fp_ez {h h1 : AH} (a : ez_ h h1) : fp_ h h1 := ⟨a.1, a.2.1, a.2.2.1, fun p _ hp => ⟨a.2.2.2.2.1 p hp, by rw [a.2.2.2.1]⟩, fun f hf => a.2.2.2.2.2 f (Classical.byContradiction fun z => hf (by
  rcases (show f = 60 ∨ f = 61 by omega) with e | e <;> subst e <;> decide))⟩
def EZ_ (h : AH) (sN P c s : Nat) (i e : Int32) (k : Nat) : Option Value → AH → Prop := fun q h1 => q = none ∧ ez_ h h1 ∧ hp_I h1 241 60 = nI (c + gn_ (vr_ sN P 0) s (4 ^ k)) ∧ hp_I h1 241 61 = pk_ (vr_ sN P 0) s c i e (4 ^ k)
noncomputable def sp_ease (h : AH) (sN : Nat) (P i : Int32) (hx : AH) : Int32 × AH :=
  (cf_ ((0 ≤ P ∧ P ≤ nI (2 ^ sN - 1)) ∧ -1 ≤ i) (cf_ (i = -1) (nI (gn_ (vr_ sN P.toNatClampNeg 0) 0 (4 ^ sN))) (pk_ (vr_ sN P.toNatClampNeg 0) 0 0 i (-1) (4 ^ sN))) (-1), hx)
set_option maxHeartbeats 2000000 in
theorem c_X4_easesS {G : Gv} {sN P : Nat} {i : Int32} (h3 : 3 ≤ sN ∧ sN ≤ 9) (hP : P < 512) {k : Nat} (hk : k ≤ sN) (IH : ∀ j, j < k → ∀ (h : AH) (a c : Nat) (e : Int32), MI h → hp_I h 241 4 = nI sN → hp_I h 241 60 = nI c → hp_I h 241 61 = e → 4 ^ j * a < 4 ^ sN → vr_ sN P j (4 ^ j * a) → Ctr G (j + 2) yX4_eases cX4_eases 7 none [.ref 241, .int (nI P), .int (nI j - 1), .int (nI (4 ^ j * a)), .int i] h 0 0 (EZ_ h sN P c (4 ^ j * a) i e j)) {h : AH} {a c : Nat} {e : Int32} (hm : MI h) (hs : hp_I h 241 4 = nI sN) (h60 : hp_I h 241 60 = nI c) (h61 : hp_I h 241 61 = e) (hlt : 4 ^ k * a < 4 ^ sN) (hU : vr_ sN P k (4 ^ k * a)) : Ctr G (k + 2) yX4_eases cX4_eases 7 none [.ref 241, .int (nI P), .int (nI k - 1), .int (nI (4 ^ k * a)), .int i] h 0 0 (EZ_ h sN P c (4 ^ k * a) i e k) := by
  refine ctr_of (own := RX4) (nm := "eases") (by decide) (Nat.le_of_ble_eq_true rfl) ?_
  have h49 : 4 ^ sN ≤ 4 ^ 9 := Nat.pow_le_pow_right (by decide) h3.2
  refine v_iload_n dX4_eases_0 rfl rfl ?_
  refine v_if_ge (tgt := 29) dX4_eases_1 (by decide) (fun b1 => ?_) (fun b1 => ?_)
  · skip
    obtain ⟨p, rfl⟩ := dl_f (Int32.not_lt.mpr b1)
    rw [nI_pred]
    have h4p := p4 p
    have hp9 : p < 9 := by omega
    have hpow : 4 ^ (p + 1) = 4 * 4 ^ p := by rw [Nat.pow_succ]; omega
    have hU0 := vr_lo (d := 0) (by decide) hU (Or.inl rfl)
    have eA0 : 4 ^ (p + 1) * a + 0 * 4 ^ p = 4 ^ p * (4 * a) := by rw [Nat.pow_succ, Nat.mul_assoc]; omega
    rw [eA0] at hU0
    have hIH0 := IH p (by omega) h (4 * a) c e hm hs h60 h61 (by rw [← eA0]; omega) hU0
    rw [← eA0] at hIH0
    simp only [Nat.zero_mul, Nat.add_zero] at hIH0
    refine v_aload_n dX4_eases_29 rfl rfl ?_
    refine v_iload_n dX4_eases_30 rfl rfl ?_
    refine v_iload_n dX4_eases_31 rfl rfl ?_
    refine v_iconst (v := 1) dX4_eases_32 (by decide) ?_
    refine v_isub dX4_eases_33 ?_
    refine v_iload_n dX4_eases_34 rfl rfl ?_
    refine v_iload dX4_eases_35 rfl ?_
    refine v_zV mtX4_eases q2211 q2213 qs117 rfl (by decide) dX4_eases_37 hIH0 (mK_obj hm) (by omega) (fun r37 h37 q37 z37 => ?_)
    obtain ⟨rfl, hz37, hc37, he37⟩ := q37
    have hm : MI h37 := ez_m hz37 hm
    have hs37 : hp_I h37 241 4 = nI sN := by rw [hz37.2.2.2.2.2 4 (by omega)]; exact hs
    refine v_iload_n dX4_eases_40 rfl rfl ?_
    refine v_iload_n dX4_eases_41 rfl rfl ?_
    refine v_pS mtX4_has q1859 q1860 dX4_eases_42 (c_X4_has _ _) (by omega) ?_
    rw [show b2i ((nI P >>> (nI p &&& 31)) &&& 1 = 1) = b2c (P.testBit p = true) from b2i_b2c (has_bit (by omega) (by omega))]
    refine v_istore dX4_eases_45 (by decide) ?_
    refine v_iload_n dX4_eases_47 rfl rfl ?_
    refine v_iconst (v := 1) dX4_eases_48 (by decide) ?_
    refine v_iadd dX4_eases_49 ?_
    rw [nI_1]
    refine v_istore dX4_eases_50 (by decide) ?_
    refine v_loc2 (by repeat' (first | with_reducible exact lsub_n | with_reducible refine lsub_c ?_ ?_ | with_reducible refine lk_hit ?_ | with_reducible refine lk_miss (by decide) ?_ ?_ | (first | exact rfl | exact congrArg Value.int (b2c_c ⟨fun z => ⟨z, fun j h1 h2 _ => by omega⟩, fun z => z.1⟩) | exact congrArg (fun z => some (Value.int z)) (b2c_c ⟨fun z => ⟨z, fun j h1 h2 _ => by omega⟩, fun z => z.1⟩)))) (v_lp1 (fun (q : Nat) => sN - q) (fun (q : Nat) => p < q ∧ q ≤ sN) (fun (q : Nat) => [(0, .ref 241), (1, .int (nI P)), (2, .int (nI p)), (3, .int (nI (4 ^ (p + 1) * a))), (4, .int i), (5, .int (b2c (P.testBit p = true ∧ ∀ j, p < j → j < q → be_ sN p j → dg_ (4 ^ (p + 1) * a) j = 0))), (6, .int (nI q))]) (fun _ => []) (fun (q : Nat) => h37) ?_ (p + 1) ⟨by omega, by omega⟩)
    intro q hI IHq
    obtain ⟨hI1, hI2⟩ := hI
    refine v_iload dX4_eases_52 rfl ?_
    refine v_aload_n dX4_eases_54 rfl rfl ?_
    refine v_getI fX4_24 dX4_eases_55 (mK_obj hm) ?_
    rw [hs37]
    refine v_icmp_ge (tgt := 100) dX4_eases_58 (by decide) (fun b58 => ?_) (fun b58 => ?_)
    · skip
      rw [nI_leI (by omega) (by omega)] at b58
      have hq9 : sN = q := by omega
      subst hq9
      refine v_iload dX4_eases_100 rfl ?_
      refine v_if_ne (tgt := 106) dX4_eases_102 (by decide) (fun b102 => ?_) (fun b102 => ?_)
      · skip
        rw [b2c_n0] at b102
        have hU1 := vr_lo (d := 1) (by decide) hU (Or.inr ⟨by decide, b102⟩)
        have hU2 := vr_lo (d := 2) (by decide) hU (Or.inr ⟨by decide, b102⟩)
        rw [Nat.one_mul] at hU1
        have eA1 : 4 ^ (p + 1) * a + 4 ^ p = 4 ^ p * (4 * a + 1) := by rw [Nat.pow_succ, Nat.mul_assoc, Nat.mul_add]; omega
        have eA2 : 4 ^ (p + 1) * a + 2 * 4 ^ p = 4 ^ p * (4 * a + 2) := by rw [Nat.pow_succ, Nat.mul_assoc, Nat.mul_add]; omega
        rw [eA1] at hU1
        rw [eA2] at hU2
        have hl2 : 4 ^ (p + 1) * a + 2 * 4 ^ p < 4 ^ sN := by
         have e9 : 4 ^ sN = 4 ^ (p + 1) * 4 ^ (sN - (p + 1)) := by rw [← Nat.pow_add]; congr 1; omega
         rw [e9] at hlt ⊢
         have h8 := Nat.lt_of_mul_lt_mul_left hlt
         have h7 := Nat.mul_le_mul_left (4 ^ (p + 1)) (show a + 1 ≤ 4 ^ (sN - (p + 1)) from h8)
         rw [Nat.mul_add] at h7
         omega
        refine v_aload_n dX4_eases_106 rfl rfl ?_
        refine v_iload_n dX4_eases_107 rfl rfl ?_
        refine v_iload_n dX4_eases_108 rfl rfl ?_
        refine v_iconst (v := 1) dX4_eases_109 (by decide) ?_
        refine v_isub dX4_eases_110 ?_
        refine v_iload_n dX4_eases_111 rfl rfl ?_
        refine v_iconst (v := 1) dX4_eases_112 (by decide) ?_
        refine v_iconst (v := 2) dX4_eases_113 (by decide) ?_
        refine v_iload_n dX4_eases_114 rfl rfl ?_
        refine v_imul dX4_eases_115 ?_
        refine v_ishl dX4_eases_116 ?_
        refine v_ior dX4_eases_117 ?_
        rw [sh_41 p hp9, nI_or, show 4 ^ (p + 1) * a ||| 4 ^ p = 4 ^ p * (4 * a + 1) from by rw [← eA1]; have := or_4 (a := a) (p := p) (d := 1) (by decide); rw [Nat.one_mul] at this; exact this]
        refine v_iload dX4_eases_118 rfl ?_
        refine v_zV mtX4_eases q2211 q2213 qs117 rfl (by decide) dX4_eases_120 (IH p (by omega) h37 (4 * a + 1) _ _ hm hs37 hc37 he37 (by rw [← eA1]; omega) hU1) (mK_obj hm) (by omega) (fun r120 h120 q120 z120 => ?_)
        obtain ⟨rfl, hz120, hc120, he120⟩ := q120
        have hm : MI h120 := ez_m hz120 hm
        have hs120 : hp_I h120 241 4 = nI sN := by rw [hz120.2.2.2.2.2 4 (by omega)]; exact hs37
        refine v_aload_n dX4_eases_123 rfl rfl ?_
        refine v_iload_n dX4_eases_124 rfl rfl ?_
        refine v_iload_n dX4_eases_125 rfl rfl ?_
        refine v_iconst (v := 1) dX4_eases_126 (by decide) ?_
        refine v_isub dX4_eases_127 ?_
        refine v_iload_n dX4_eases_128 rfl rfl ?_
        refine v_iconst (v := 2) dX4_eases_129 (by decide) ?_
        refine v_iconst (v := 2) dX4_eases_130 (by decide) ?_
        refine v_iload_n dX4_eases_131 rfl rfl ?_
        refine v_imul dX4_eases_132 ?_
        refine v_ishl dX4_eases_133 ?_
        refine v_ior dX4_eases_134 ?_
        rw [sh_42 p hp9, nI_or, show 4 ^ (p + 1) * a ||| 2 * 4 ^ p = 4 ^ p * (4 * a + 2) from by rw [← eA2]; exact or_4 (d := 2) (by decide)]
        refine v_iload dX4_eases_135 rfl ?_
        refine v_zV mtX4_eases q2211 q2213 qs117 rfl (by decide) dX4_eases_137 (IH p (by omega) h120 (4 * a + 2) _ _ hm hs120 hc120 he120 (by rw [← eA2]; omega) hU2) (mK_obj hm) (by omega) (fun r137 h137 q137 z137 => ?_)
        obtain ⟨rfl, hz137, hc137, he137⟩ := q137
        have hm : MI h137 := ez_m hz137 hm
        have hs137 : hp_I h137 241 4 = nI sN := by rw [hz137.2.2.2.2.2 4 (by omega)]; exact hs120
        have hb3 := blk_no (P := P) (a := a) (p := p) (d := 3) (by omega) (by decide) (fun z => z.elim (fun y => absurd y (by decide)) (fun y => y.1 rfl))
        simp only [← eA1, ← eA2] at hc120 he120 hc137 he137
        refine v_retv dX4_eases_140 trivial ⟨rfl, ez_tr hz37 (ez_tr hz120 hz137), ?_, ?_⟩
        · rw [hc137, blk_gn, gn_zero _ hb3]; simp only [Nat.add_zero, Nat.add_assoc]
        · rw [he137, blk_pk, pk_zero _ hb3]
      · skip
        rw [b2c_0] at b102
        have hb1 := blk_no (P := P) (a := a) (p := p) (d := 1) (by omega) (by decide) (fun z => z.elim (fun y => absurd y (by decide)) (fun y => b102 y.2))
        have hb2 := blk_no (P := P) (a := a) (p := p) (d := 2) (by omega) (by decide) (fun z => z.elim (fun y => absurd y (by decide)) (fun y => b102 y.2))
        rw [Nat.one_mul] at hb1
        have hb3 := blk_no (P := P) (a := a) (p := p) (d := 3) (by omega) (by decide) (fun z => z.elim (fun y => absurd y (by decide)) (fun y => y.1 rfl))
        refine v_retv dX4_eases_105 trivial ⟨rfl, hz37, ?_, ?_⟩
        · rw [hc37, blk_gn, gn_zero _ hb3, gn_zero _ hb2, gn_zero _ hb1]; rfl
        · rw [he37, blk_pk, pk_zero _ hb3, pk_zero _ hb2, pk_zero _ hb1]
    · skip
      rw [nI_leI (by omega) (by omega)] at b58
      have hq9 : q < sN := by omega
      refine v_join 92 (fun z => z = b2c (P.testBit p = true ∧ ∀ j, p < j → j < (q + 1) → be_ sN p j → dg_ (4 ^ (p + 1) * a) j = 0)) (fun z hz => ?_) (fun hj92 => ?_)
      · skip
        subst hz
        refine v_istore dX4_eases_92 (by decide) ?_
        refine v_iinc dX4_eases_94 rfl (by first | with_reducible exact nI_inc _ | exact rfl) (by decide) ?_
        refine v_goto (tgt := 52) dX4_eases_97 (by decide) ?_
        refine v_loc2 (by repeat' (first | with_reducible exact lsub_n | with_reducible refine lsub_c ?_ ?_ | with_reducible refine lk_hit ?_ | with_reducible refine lk_miss (by decide) ?_ ?_ | exact rfl)) (IHq (q + 1) ⟨by omega, by omega⟩ (by omega))
      · skip
        refine v_iload dX4_eases_61 rfl ?_
        refine v_if_eq (tgt := 91) dX4_eases_63 (by decide) (fun b63 => ?_) (fun b63 => ?_)
        · skip
          rw [b2c_0] at b63
          have hnx : ¬ (P.testBit p = true ∧ ∀ j, p < j → j < (q + 1) → be_ sN p j → dg_ (4 ^ (p + 1) * a) j = 0) := fun z => b63 ⟨z.1, fun j h1 h2 h4 => z.2 j h1 (by omega) h4⟩
          refine v_iconst (v := 0) dX4_eases_91 (by decide) ?_
          exact hj92 _ (by first | exact (b2c_t hnx).symm | exact (b2c_f hnx).symm)
        · skip
          rw [b2c_n0] at b63
          refine v_aload_n dX4_eases_66 rfl rfl ?_
          refine v_iload_n dX4_eases_67 rfl rfl ?_
          refine v_iload dX4_eases_68 rfl ?_
          refine v_pV mtX4_isBeside q1839 q1841 qs63 rfl (by decide) dX4_eases_70 (c_X4_isBeside (p := p) (q := q) hm hs37 h3 (by omega) (by omega)) (mK_obj hm) (by omega) ?_
          refine v_if_eq (tgt := 87) dX4_eases_73 (by decide) (fun b73 => ?_) (fun b73 => ?_)
          · skip
            rw [b2i_0] at b73
            have hnx : (P.testBit p = true ∧ ∀ j, p < j → j < (q + 1) → be_ sN p j → dg_ (4 ^ (p + 1) * a) j = 0) := ⟨b63.1, fun j h1 h2 h4 => (Nat.lt_succ_iff_lt_or_eq.mp h2).elim (fun y => b63.2 j h1 y h4) (fun y => by subst y; exact absurd h4 b73)⟩
            refine v_iconst (v := 1) dX4_eases_87 (by decide) ?_
            refine v_goto (tgt := 92) dX4_eases_88 (by decide) ?_
            exact hj92 _ (by first | exact (b2c_t hnx).symm | exact (b2c_f hnx).symm)
          · skip
            rw [b2i_n0] at b73
            refine v_iload_n dX4_eases_76 rfl rfl ?_
            refine v_iconst (v := 2) dX4_eases_77 (by decide) ?_
            refine v_iload dX4_eases_78 rfl ?_
            refine v_imul dX4_eases_80 ?_
            refine v_ishr dX4_eases_81 ?_
            refine v_iconst (v := 3) dX4_eases_82 (by decide) ?_
            refine v_iand dX4_eases_83 ?_
            rw [sh_dg (by omega) (by omega)]
            refine v_if_ne (tgt := 91) dX4_eases_84 (by decide) (fun b84 => ?_) (fun b84 => ?_)
            · skip
              rw [show (0 : Int32) = nI 0 from rfl, nI_eq (by have : dg_ (4 ^ (p + 1) * a) q < 4 := Nat.mod_lt _ (by decide); omega) (by decide)] at b84
              have hnx : ¬ (P.testBit p = true ∧ ∀ j, p < j → j < (q + 1) → be_ sN p j → dg_ (4 ^ (p + 1) * a) j = 0) := fun z => b84 (z.2 q (by omega) (by omega) b73)
              refine v_iconst (v := 0) dX4_eases_91 (by decide) ?_
              exact hj92 _ (by first | exact (b2c_t hnx).symm | exact (b2c_f hnx).symm)
            · skip
              rw [show (0 : Int32) = nI 0 from rfl, nI_eq (by have : dg_ (4 ^ (p + 1) * a) q < 4 := Nat.mod_lt _ (by decide); omega) (by decide)] at b84
              have hnx : (P.testBit p = true ∧ ∀ j, p < j → j < (q + 1) → be_ sN p j → dg_ (4 ^ (p + 1) * a) j = 0) := ⟨b63.1, fun j h1 h2 h4 => (Nat.lt_succ_iff_lt_or_eq.mp h2).elim (fun y => b63.2 j h1 y h4) (fun y => by subst y; exact b84)⟩
              refine v_iconst (v := 1) dX4_eases_87 (by decide) ?_
              refine v_goto (tgt := 92) dX4_eases_88 (by decide) ?_
              exact hj92 _ (by first | exact (b2c_t hnx).symm | exact (b2c_f hnx).symm)
  · skip
    have hk0 := dl_t (Int32.not_le.mp b1) (by omega)
    subst hk0
    have hV : vr_ sN P 0 (4 ^ 0 * a + 0) := hU
    refine v_aload_n dX4_eases_4 rfl rfl ?_
    refine v_getI fX4_456 dX4_eases_5 (mK_obj hm) ?_
    refine v_iload dX4_eases_8 rfl ?_
    refine v_icmp_ne (tgt := 18) dX4_eases_10 (by decide) (fun b10 => ?_) (fun b10 => ?_)
    · skip
      have hq : pk_ (vr_ sN P 0) (4 ^ 0 * a) c i e (4 ^ 0) = e := cf_f (fun z => b10 (by rw [h60]; exact z.2))
      refine v_aload_n dX4_eases_18 rfl rfl ?_
      refine v_dup dX4_eases_19 rfl ?_
      refine v_getI fX4_456 dX4_eases_20 (mK_obj hm) ?_
      refine v_iconst (v := 1) dX4_eases_23 (by decide) ?_
      refine v_iadd dX4_eases_24 ?_
      refine v_putI fX4_456 (.inl rfl) dX4_eases_25 (mK_obj hm) ?_
      refine v_retv dX4_eases_28 trivial ⟨rfl, ?_, ?_, ?_⟩
      · first | exact ez_f (ez_rf h) (by omega) | exact ez_f (ez_f (ez_rf h) (by omega)) (by omega)
      · rw [hp_I_I, if_pos ⟨rfl, rfl⟩]; (try rw [hp_I_I, if_neg (by decide)]); rw [h60, show gn_ (vr_ sN P 0) (4 ^ 0 * a) (4 ^ 0) = 1 from by show 0 + _ = 1; rw [if_pos hV]]; exact nI_1 _
      · rw [hp_I_I, if_neg (by decide), hq]; first | exact h61 | (rw [hp_I_I, if_pos ⟨rfl, rfl⟩])
    · skip
      have hq : pk_ (vr_ sN P 0) (4 ^ 0 * a) c i e (4 ^ 0) = nI (4 ^ 0 * a) := cf_t ⟨hV, by rw [h60] at b10; exact b10⟩
      refine v_aload_n dX4_eases_13 rfl rfl ?_
      refine v_iload_n dX4_eases_14 rfl rfl ?_
      refine v_putI fX4_459 (.inl rfl) dX4_eases_15 (mK_obj hm) ?_
      refine v_aload_n dX4_eases_18 rfl rfl ?_
      refine v_dup dX4_eases_19 rfl ?_
      refine v_getI fX4_456 dX4_eases_20 (mK_obj hm) ?_
      refine v_iconst (v := 1) dX4_eases_23 (by decide) ?_
      refine v_iadd dX4_eases_24 ?_
      refine v_putI fX4_456 (.inl rfl) dX4_eases_25 (mK_obj hm) ?_
      refine v_retv dX4_eases_28 trivial ⟨rfl, ?_, ?_, ?_⟩
      · first | exact ez_f (ez_rf h) (by omega) | exact ez_f (ez_f (ez_rf h) (by omega)) (by omega)
      · rw [hp_I_I, if_pos ⟨rfl, rfl⟩]; (try rw [hp_I_I, if_neg (by decide)]); rw [h60, show gn_ (vr_ sN P 0) (4 ^ 0 * a) (4 ^ 0) = 1 from by show 0 + _ = 1; rw [if_pos hV]]; exact nI_1 _
      · rw [hp_I_I, if_neg (by decide), hq]; first | exact h61 | (rw [hp_I_I, if_pos ⟨rfl, rfl⟩])

theorem c_X4_eases {G : Gv} {sN P : Nat} {i : Int32} (h3 : 3 ≤ sN ∧ sN ≤ 9) (hP : P < 512) : ∀ k, k ≤ sN → ∀ (h : AH) (a c : Nat) (e : Int32), MI h → hp_I h 241 4 = nI sN → hp_I h 241 60 = nI c → hp_I h 241 61 = e → 4 ^ k * a < 4 ^ sN → vr_ sN P k (4 ^ k * a) → Ctr G (k + 2) yX4_eases cX4_eases 7 none [.ref 241, .int (nI P), .int (nI k - 1), .int (nI (4 ^ k * a)), .int i] h 0 0 (EZ_ h sN P c (4 ^ k * a) i e k) := fun k => by
  induction k using Nat.strongRecOn with
  | ind k ih => exact fun hk h a c e h1 h2 h4 h5 h6 h7 => c_X4_easesS h3 hP hk (fun j hj => ih j hj (by omega)) h1 h2 h4 h5 h6 h7
set_option maxHeartbeats 1000000 in
theorem c_X4_ease {G : Gv} {h : AH} {sN nC : Nat} (hS : MS_ h sN nC) (P i : Int32) : Ctr G 13 yX4_ease cX4_ease 3 (some .int) [.ref 241, .int P, .int i] h 0 0 (Pf h (sp_ease h sN P i)) := by
  refine ctr_of (own := RX4) (nm := "ease") (by decide) (Nat.le_of_ble_eq_true rfl) ?_
  have hm := hS.1
  have hS0 := MS_th hS
  have hs := hS.2.1
  have hv := hS.2.2.1
  have h3 := sv_s hv
  have hpt := fp_th h
  refine v_aload_n dX4_ease_0 rfl rfl ?_
  refine v_iconst (v := 0) dX4_ease_1 (by decide) ?_
  refine v_thr fX4_1 dX4_ease_2 hm ?_
  have hm := MI_th hm
  refine v_cut 30 ((0 ≤ P ∧ P ≤ nI (2 ^ sN - 1)) ∧ -1 ≤ i) (fun hz30 => ?_) (fun hc30 => ?_)
  · skip
    have h2p : 2 ^ sN ≤ 2 ^ 9 := Nat.pow_le_pow_right (by decide) h3.2
    obtain ⟨Pn, hPn, rfl⟩ := nI_rngE (x := P) hz30.1 (by omega)
    have hpos := Nat.two_pow_pos sN
    refine v_aload_n dX4_ease_30 rfl rfl ?_
    refine v_iconst (v := 0) dX4_ease_31 (by decide) ?_
    refine v_putI fX4_456 (.inl rfl) dX4_ease_32 (mK_obj hm) ?_
    refine v_aload_n dX4_ease_35 rfl rfl ?_
    refine v_iconst (v := (-1)) dX4_ease_36 (by decide) ?_
    refine v_putI fX4_459 (.inl rfl) dX4_ease_37 (mK_obj hm) ?_
    refine v_aload_n dX4_ease_40 rfl rfl ?_
    refine v_iload_n dX4_ease_41 rfl rfl ?_
    refine v_aload_n dX4_ease_42 rfl rfl ?_
    refine v_getI fX4_24 dX4_ease_43 (mK_obj hm) ?_
    rw [show hp_I (up_I (up_I (th_ h) 241 60 0) 241 61 (-1)) 241 4 = nI sN from hs]
    refine v_iconst (v := 1) dX4_ease_46 (by decide) ?_
    refine v_isub dX4_ease_47 ?_
    refine v_iconst (v := nI 0) dX4_ease_48 (by decide) ?_
    refine v_iload_n dX4_ease_49 rfl rfl ?_
    have hIH0 := c_X4_eases (G := G) (i := i) h3 (show Pn < 512 by omega) sN (Nat.le_refl _) (up_I (up_I (th_ h) 241 60 0) 241 61 (-1)) 0 0 (-1) hm hs rfl rfl (by rw [Nat.mul_zero]; exact p4 _) (fun p h1 h2 => by omega)
    rw [Nat.mul_zero] at hIH0
    refine v_zV mtX4_eases q2211 q2213 qs117 rfl (by decide) dX4_ease_50 hIH0 (mK_obj hm) (by omega) (fun r50 h50 q50 z50 => ?_)
    obtain ⟨rfl, hz, hc, he⟩ := q50
    have hm : MI h50 := ez_m hz hm
    refine v_iload_n dX4_ease_53 rfl rfl ?_
    refine v_iconst (v := (-1)) dX4_ease_54 (by decide) ?_
    refine v_icmp_ne (tgt := 65) dX4_ease_55 (by decide) (fun b55 => ?_) (fun b55 => ?_)
    · skip
      refine v_aload_n dX4_ease_65 rfl rfl ?_
      refine v_getI fX4_459 dX4_ease_66 (mK_obj hm) ?_
      refine v_reti dX4_ease_69 rfl (Pf_i (fp_tr hpt (fp_ez (ez_tr (ez_f (ez_f (ez_rf _) (by omega)) (by omega)) hz))) ?_)
      unfold sp_ease
      rw [cf_t hz30, nI_clamp (by omega)]
      refine congrArg (fun z => (z, _)) ?_
      first | (rw [cf_t b55, hc, Nat.zero_add]; done) | (rw [cf_f b55]; exact he.symm)
    · skip
      refine v_aload_n dX4_ease_58 rfl rfl ?_
      refine v_getI fX4_456 dX4_ease_59 (mK_obj hm) ?_
      refine v_goto (tgt := 69) dX4_ease_62 (by decide) ?_
      refine v_reti dX4_ease_69 rfl (Pf_i (fp_tr hpt (fp_ez (ez_tr (ez_f (ez_f (ez_rf _) (by omega)) (by omega)) hz))) ?_)
      unfold sp_ease
      rw [cf_t hz30, nI_clamp (by omega)]
      refine congrArg (fun z => (z, _)) ?_
      first | (rw [cf_t b55, hc, Nat.zero_add]; done) | (rw [cf_f b55]; exact he.symm)
  · skip
    refine v_cut 28 (¬ ((0 ≤ P ∧ P ≤ nI (2 ^ sN - 1)) ∧ -1 ≤ i)) (fun hz28 => ?_) (fun hc28 => ?_)
    · skip
      refine v_iconst (v := (-1)) dX4_ease_28 (by decide) ?_
      exact v_reti dX4_ease_29 rfl (Pf_i hpt (by unfold sp_ease; rw [cf_f hz28]))
    · skip
      refine v_iload_n dX4_ease_5 rfl rfl ?_
      refine v_i2l dX4_ease_6 ?_
      refine v_lconst (v := (0 : Int32).toInt64) dX4_ease_7 (by decide) ?_
      refine v_iconst (v := 1) dX4_ease_8 (by decide) ?_
      refine v_aload_n dX4_ease_9 rfl rfl ?_
      refine v_getI fX4_24 dX4_ease_10 (mK_obj hm) ?_
      rw [th_4, hs]
      refine v_ishl dX4_ease_13 ?_
      rw [sh_1 (by omega)]
      refine v_iconst (v := 1) dX4_ease_14 (by decide) ?_
      refine v_isub dX4_ease_15 ?_
      rw [nI_sub1 (Nat.two_pow_pos _)]
      refine v_i2l dX4_ease_16 ?_
      refine v_pS mtX4_within q1790 q1791 dX4_ease_17 (c_X4_within _ _ _) (by decide) ?_
      refine v_if_eq (tgt := 28) dX4_ease_20 (by decide) (fun b20 => ?_) (fun b20 => ?_)
      · skip
        exact hc28 (by (try simp only [b2i_0, b2i_n0] at *); grind)
      · skip
        refine v_iload_n dX4_ease_23 rfl rfl ?_
        refine v_iconst (v := (-1)) dX4_ease_24 (by decide) ?_
        refine v_icmp_ge (tgt := 30) dX4_ease_25 (by decide) (fun b25 => ?_) (fun b25 => ?_)
        · skip
          exact hc30 (by (try simp only [b2i_0, b2i_n0] at *); grind)
        · skip
          exact hc28 (by (try simp only [b2i_0, b2i_n0] at *); grind)

