set_option maxRecDepth 100000
theorem and_cm {a m : Nat} (ha : a < 512) : nI a &&& (nI m ^^^ -1) = nI (a &&& (511 ^^^ m)) := by
  refine Int32.toBitVec_inj.mp (BitVec.eq_of_getLsbD_eq fun i hi => ?_)
  show ((BitVec.ofNat 32 a) &&& ((BitVec.ofNat 32 m) ^^^ (-1 : Int32).toBitVec)).getLsbD i = (BitVec.ofNat 32 (a &&& (511 ^^^ m))).getLsbD i
  rw [BitVec.getLsbD_and, BitVec.getLsbD_xor, BitVec.getLsbD_ofNat, BitVec.getLsbD_ofNat, BitVec.getLsbD_ofNat, show (-1 : Int32).toBitVec = BitVec.allOnes 32 from rfl, BitVec.getLsbD_allOnes, Nat.testBit_and, Nat.testBit_xor, show (511 : Nat) = 2 ^ 9 - 1 from rfl, Nat.testBit_two_pow_sub_one]
  by_cases h9 : i < 9
  · simp [hi, h9, Bool.xor_comm]
  · have : a.testBit i = false := Nat.testBit_lt_two_pow (Nat.lt_of_lt_of_le ha (Nat.pow_le_pow_right (n := 2) (by decide) (by omega : 9 ≤ i)))
    simp [this]
theorem c511 (m k : Nat) : (511 ^^^ m).testBit k = (decide (k < 9) ^^ m.testBit k) := by rw [Nat.testBit_xor, show (511 : Nat) = 2 ^ 9 - 1 from rfl, Nat.testBit_two_pow_sub_one]
theorem c511' {m k : Nat} (hk : k < 9) : (511 ^^^ m).testBit k = true ↔ ¬ m.testBit k = true := by
  rw [c511, decide_eq_true hk]
  cases m.testBit k <;> simp
/-- the laid arrays, as data -/
def LD_ (A : Nat → Int32) (C : Nat → Nat → Int32) (nC sN : Nat) (S : Int32) (h : AH) : Prop := MI h ∧ hp_I h 241 4 = nI sN ∧ hp_I h 243 = A ∧ ∀ t, t < 100 → ∀ j, j < 8 → ∀ s, s < lm_ sN j → hp_I h (245 + j) (100 * s + t) = cv_s A C nC sN S j s t
theorem LY_LD {h0 h : AH} {sN nC : Nat} {S : Int32} (hS : MS_ h0 sN nC) (hL : LY_ h0 nC sN S h) : LD_ (hp_I h0 243) (ct_ h0) nC sN S h := ⟨(MS_fr hS hL.1).1, (MS_fr hS hL.1).2.1, fr_33 hL.1, hL.2⟩
theorem LD_f {A : Nat → Int32} {C : Nat → Nat → Int32} {nC sN f : Nat} {S v : Int32} {h : AH} (hL : LD_ A C nC sN S h) (hf : f ≠ 4) : LD_ A C nC sN S (up_I h 241 f v) := ⟨hL.1, by rw [hp_I_I, if_neg (fun z => hf z.2.symm)]; exact hL.2.1, by rw [II_n (by decide)]; exact hL.2.2.1, fun t ht j hj s hs => by rw [II_n (by omega)]; exact hL.2.2.2 t ht j hj s hs⟩
theorem LD_lit {A : Nat → Int32} {C : Nat → Nat → Int32} {nC sN t : Nat} {S : Int32} {h : AH} (hL : LD_ A C nC sN S h) (ht : t < 100) : hp_I h 245 t = li_ A C S t nC := by
  have := hL.2.2.2 t ht 0 (by decide) 0 (show 0 < 1 by decide)
  rw [show 100 * 0 + t = t by omega] at this
  exact this
theorem LD_ruled {A : Nat → Int32} {C : Nat → Nat → Int32} {nC sN t : Nat} {S : Int32} {h : AH} (hL : LD_ A C nC sN S h) (ht : t < 100) : hp_I h 250 t = nI (sb_ (fun p => ¬ rul_ C S p t nC = -1) sN) := by
  have := hL.2.2.2 t ht 5 (by decide) 0 (show 0 < 1 by decide)
  rw [show 100 * 0 + t = t by omega] at this
  exact this
theorem LD_wat {A : Nat → Int32} {C : Nat → Nat → Int32} {nC sN s t : Nat} {S : Int32} {h : AH} (hL : LD_ A C nC sN S h) (hs : s ≤ sN) (ht : t < 100) : hp_I h 247 (100 * s + t) = nI (wa_ A C nC sN S s t) := hL.2.2.2 t ht 2 (by decide) s (by show s < sN + 1; omega)
theorem LD_eye {A : Nat → Int32} {C : Nat → Nat → Int32} {nC sN s t : Nat} {S : Int32} {h : AH} (hL : LD_ A C nC sN S h) (hs : s ≤ sN) (ht : t < 100) : hp_I h 246 (100 * s + t) = nI (sb_ (fun p => eyes_ A C nC S p t = nI s) sN) := hL.2.2.2 t ht 1 (by decide) s (by show s < sN + 1; omega)
theorem LD_held {A : Nat → Int32} {C : Nat → Nat → Int32} {nC sN a t : Nat} {S : Int32} {h : AH} (hL : LD_ A C nC sN S h) (ha : a < 2 * sN) (ht : t < 100) : hp_I h 249 (100 * a + t) = nI (hb_ A t a (2 * sN)) := hL.2.2.2 t ht 4 (by decide) a ha
theorem LD_free {A : Nat → Int32} {C : Nat → Nat → Int32} {nC sN a t : Nat} {S : Int32} {h : AH} (hL : LD_ A C nC sN S h) (ha : a < 2 * sN) (ht : t < 100) : hp_I h 251 (100 * a + t) = b2c (free_ A C nC sN S a t) := hL.2.2.2 t ht 6 (by decide) a ha
theorem LD_tied {A : Nat → Int32} {C : Nat → Nat → Int32} {nC sN a t : Nat} {S : Int32} {h : AH} (hL : LD_ A C nC sN S h) (ha : a < 2 * sN) (ht : t < 100) : hp_I h 252 (100 * a + t) = b2c (tied_ C nC S a t) := hL.2.2.2 t ht 7 (by decide) a ha
/-- led by a call of strength c -/
def ld_ (A : Nat → Int32) (C : Nat → Nat → Int32) (nC : Nat) (S c : Int32) (q t : Nat) : Prop := rul_ C S q t nC = -1 ∧ A (110 + q) < c
noncomputable def ey_ (A : Nat → Int32) (C : Nat → Nat → Int32) (nC sN : Nat) (S c : Int32) (q t : Nat) : Int32 := cf_ (ld_ A C nC S c q t) (nI sN) (eyes_ A C nC S q t)
/-- person q sees place x under a call -/
def ss_ (A : Nat → Int32) (C : Nat → Nat → Int32) (nC sN : Nat) (S c : Int32) (q x t : Nat) : Prop := ey_ A C nC sN S c q t = nI x ∧ A (100 + q) ≤ li_ A C S t nC
theorem led_eq {A : Nat → Int32} {C : Nat → Nat → Int32} {nC sN p t : Nat} {S c : Int32} (h9 : sN ≤ 9) : sc_ (fun q => ¬ q = p ∧ A (110 + q) < c) sN &&& (511 ^^^ sb_ (fun q => ¬ rul_ C S q t nC = -1) sN) = sc_ (fun q => ¬ q = p ∧ ld_ A C nC S c q t) sN := by
  refine Nat.eq_of_testBit_eq fun k => ?_
  rw [Bool.eq_iff_iff, Nat.testBit_and, Bool.and_eq_true, sc_bit, sc_bit]
  unfold ld_
  by_cases hk : k < sN
  · rw [c511' (by omega), sb_bit]
    simp only [hk, true_and, decide_eq_true_eq]
    grind
  · grind
theorem sc_lt9 {P : Nat → Prop} {n : Nat} (h : n ≤ 9) : sc_ P n < 512 := Nat.lt_of_lt_of_le (sc_lt P n) (Nat.pow_le_pow_right (by decide) h : 2 ^ n ≤ 2 ^ 9)
theorem c_X4_ledBy {G : Gv} {h : AH} {A : Nat → Int32} {C : Nat → Nat → Int32} {sN nC : Nat} {S : Int32} (hv : sv_ok A sN) (hL : LD_ A C nC sN S h) {p t : Nat} {c : Int32} (hp : p < sN) (hP : hp_I h 241 36 = nI p) (hc : hp_I h 241 40 = c) (ht : t < 100) : Ctr G 1 yX4_ledBy cX4_ledBy 4 (some .int) [.ref 241, .int (nI t)] h 0 0 (Pu h (.int (nI (sc_ (fun q => ¬ q = p ∧ ld_ A C nC S c q t) sN)))) := by
  refine ctr_of (own := RX4) (nm := "ledBy") (by decide) (Nat.le_of_ble_eq_true rfl) ?_
  have hm := hL.1
  have hs := hL.2.1
  have hA := hL.2.2.1
  have h3 := sv_s hv
  refine v_iconst (v := 0) dX4_ledBy_0 (by decide) ?_
  refine v_istore_n dX4_ledBy_1 rfl (by decide) ?_
  refine v_iconst (v := 0) dX4_ledBy_2 (by decide) ?_
  refine v_istore_n dX4_ledBy_3 rfl (by decide) ?_
  refine v_loc2 (by repeat' (first | with_reducible exact lsub_n | with_reducible refine lsub_c ?_ ?_ | with_reducible refine lk_hit ?_ | with_reducible refine lk_miss (by decide) ?_ ?_ | (first | exact rfl | (simp only [sc_0]; exact rfl)))) (v_lp1 (fun (k : Nat) => sN - k) (fun (k : Nat) => k ≤ sN) (fun (k : Nat) => [(0, .ref 241), (1, .int (nI t)), (2, .int (nI (sc_ (fun q => ¬ q = p ∧ A (110 + q) < c) k))), (3, .int (nI k))]) (fun _ => []) (fun (k : Nat) => h) ?_ 0 (Nat.zero_le _))
  intro k hI IH
  refine v_iload_n dX4_ledBy_4 rfl rfl ?_
  refine v_aload_n dX4_ledBy_5 rfl rfl ?_
  refine v_getI fX4_24 dX4_ledBy_6 (mK_obj hm) ?_
  rw [hs]
  refine v_icmp_ge (tgt := 48) dX4_ledBy_9 (by decide) (fun b9 => ?_) (fun b9 => ?_)
  · skip
    rw [nI_leI (by omega) (by omega)] at b9
    have hk : sN = k := by omega
    subst hk
    refine v_iload_n dX4_ledBy_48 rfl rfl ?_
    refine v_aload_n dX4_ledBy_49 rfl rfl ?_
    refine v_getR fX4_42 dX4_ledBy_50 (mK_obj hm) (mR_ruled hm) ?_ fcA_I
    refine v_iload_n dX4_ledBy_53 rfl rfl ?_
    refine v_iald dX4_ledBy_54 (mK_ruled hm) rfl (by first | assumption | omega) ?_
    rw [LD_ruled hL ht]
    refine v_iconst (v := (-1)) dX4_ledBy_55 (by decide) ?_
    refine v_ixor dX4_ledBy_56 ?_
    refine v_iand dX4_ledBy_57 ?_
    rw [and_cm (sc_lt9 h3.2), led_eq h3.2]
    exact v_reti dX4_ledBy_58 rfl (Pu_i rfl)
  · skip
    rw [nI_leI (by omega) (by omega)] at b9
    have hk : k < sN := by omega
    refine v_iload_n dX4_ledBy_12 rfl rfl ?_
    refine v_aload_n dX4_ledBy_13 rfl rfl ?_
    refine v_getI fX4_309 dX4_ledBy_14 (mK_obj hm) ?_
    rw [hP]
    refine v_icmp_eq (tgt := 42) dX4_ledBy_17 (by decide) (fun b17 => ?_) (fun b17 => ?_)
    · skip
      have hq : ¬ (fun q => ¬ q = p ∧ A (110 + q) < c) k := fun z => z.1 ((nI_eq (by omega) (by omega)).mp b17)
      refine v_iinc dX4_ledBy_42 rfl (by first | with_reducible exact nI_inc _ | exact rfl) (by decide) ?_
      refine v_goto (tgt := 4) dX4_ledBy_45 (by decide) ?_
      refine v_loc2 (l' := [(0, .ref 241), (1, .int (nI t)), (2, .int (nI (sc_ (fun q => ¬ q = p ∧ A (110 + q) < c) (k + 1)))), (3, .int (nI (k + 1)))]) (by (first | rw [sc_st hq] | rw [sc_sf hq]); exact (by repeat' (first | with_reducible exact lsub_n | with_reducible refine lsub_c ?_ ?_ | with_reducible refine lk_hit ?_ | with_reducible refine lk_miss (by decide) ?_ ?_ | exact rfl))) (IH (k + 1) (by omega) (by omega))
    · skip
      refine v_aload_n dX4_ledBy_20 rfl rfl ?_
      refine v_getR fX4_17 dX4_ledBy_21 (mK_obj hm) (mR_all hm) ?_ fcA_I
      refine v_bipush (v := 110) dX4_ledBy_24 (by decide) ?_
      refine v_iload_n dX4_ledBy_26 rfl rfl ?_
      refine v_iadd dX4_ledBy_27 ?_
      refine v_iald dX4_ledBy_28 (mK_all hm) (ix_add (ix_lit _) rfl) (by first | assumption | omega) ?_
      rw [hA]
      refine v_aload_n dX4_ledBy_29 rfl rfl ?_
      refine v_getI fX4_312 dX4_ledBy_30 (mK_obj hm) ?_
      rw [hc]
      refine v_icmp_ge (tgt := 42) dX4_ledBy_33 (by decide) (fun b33 => ?_) (fun b33 => ?_)
      · skip
        have hq : ¬ (fun q => ¬ q = p ∧ A (110 + q) < c) k := fun z => Int32.not_le.mpr z.2 b33
        refine v_iinc dX4_ledBy_42 rfl (by first | with_reducible exact nI_inc _ | exact rfl) (by decide) ?_
        refine v_goto (tgt := 4) dX4_ledBy_45 (by decide) ?_
        refine v_loc2 (l' := [(0, .ref 241), (1, .int (nI t)), (2, .int (nI (sc_ (fun q => ¬ q = p ∧ A (110 + q) < c) (k + 1)))), (3, .int (nI (k + 1)))]) (by (first | rw [sc_st hq] | rw [sc_sf hq]); exact (by repeat' (first | with_reducible exact lsub_n | with_reducible refine lsub_c ?_ ?_ | with_reducible refine lk_hit ?_ | with_reducible refine lk_miss (by decide) ?_ ?_ | exact rfl))) (IH (k + 1) (by omega) (by omega))
      · skip
        have hq : (fun q => ¬ q = p ∧ A (110 + q) < c) k := ⟨fun z => b17 (congrArg nI z), Int32.not_le.mp b33⟩
        refine v_iload_n dX4_ledBy_36 rfl rfl ?_
        refine v_iconst (v := 1) dX4_ledBy_37 (by decide) ?_
        refine v_iload_n dX4_ledBy_38 rfl rfl ?_
        refine v_ishl dX4_ledBy_39 ?_
        refine v_ior dX4_ledBy_40 ?_
        rw [or_sh (by omega)]
        refine v_istore_n dX4_ledBy_41 rfl (by decide) ?_
        refine v_iinc dX4_ledBy_42 rfl (by first | with_reducible exact nI_inc _ | exact rfl) (by decide) ?_
        refine v_goto (tgt := 4) dX4_ledBy_45 (by decide) ?_
        refine v_loc2 (l' := [(0, .ref 241), (1, .int (nI t)), (2, .int (nI (sc_ (fun q => ¬ q = p ∧ A (110 + q) < c) (k + 1)))), (3, .int (nI (k + 1)))]) (by (first | rw [sc_st hq] | rw [sc_sf hq]); exact (by repeat' (first | with_reducible exact lsub_n | with_reducible refine lsub_c ?_ ?_ | with_reducible refine lk_hit ?_ | with_reducible refine lk_miss (by decide) ?_ ?_ | exact rfl))) (IH (k + 1) (by omega) (by omega))

theorem seer_eq {A : Nat → Int32} {C : Nat → Nat → Int32} {nC sN p x t m : Nat} {S c : Int32} (h9 : sN ≤ 9) (hmp : m.testBit p = true) (hx : x ≤ sN) : (((wa_ A C nC sN S x t &&& (511 ^^^ sc_ (fun q => ¬ q = p ∧ ld_ A C nC S c q t) sN)) ||| sc_ (fun q => x = sN ∧ (¬ q = p ∧ ld_ A C nC S c q t) ∧ A (100 + q) ≤ li_ A C S t nC) sN) &&& (511 ^^^ m)) = sc_ (fun q => ¬ m.testBit q = true ∧ ss_ A C nC sN S c q x t) sN := by
  refine Nat.eq_of_testBit_eq fun k => ?_
  rw [Bool.eq_iff_iff, Nat.testBit_and, Bool.and_eq_true, Nat.testBit_or, Bool.or_eq_true, Nat.testBit_and, Bool.and_eq_true, wa_bit, sc_bit, sc_bit]
  by_cases hk : k < sN
  · rw [c511' (by omega), c511' (by omega), sc_bit]
    unfold ss_ ey_ see_
    by_cases hl : ld_ A C nC S c k t
    · rw [cf_t hl]
      have e : nI sN = nI x ↔ x = sN := ⟨fun z => ((nI_eq (by omega) (by omega)).mp z).symm, fun z => by rw [z]⟩
      rw [e]
      grind
    · rw [cf_f hl]
      grind
  · grind
theorem ld_0 {A : Nat → Int32} {C : Nat → Nat → Int32} {nC sN q t : Nat} {S : Int32} (hv : sv_ok A sN) (hq : q < 9) : ¬ ld_ A C nC S 0 q t := fun z => by
  obtain ⟨-, ⟨k, hk, e⟩⟩ := sv_need hv hq
  have := z.2
  rw [e] at this
  exact nI_pos (n := k) (by omega) this
theorem sc_n {P : Nat → Prop} {n : Nat} (h : ∀ k, k < n → ¬ P k) : sc_ P n = 0 := sc_z.mpr h
theorem c_X4_seers {G : Gv} {h : AH} {A : Nat → Int32} {C : Nat → Nat → Int32} {sN nC : Nat} {S : Int32} (hv : sv_ok A sN) (hL : LD_ A C nC sN S h) {p t x m : Nat} {c : Int32} (hp : p < sN) (hP : hp_I h 241 36 = nI p) (hc : hp_I h 241 40 = c) (hw : hp_I h 241 37 = nI m ^^^ -1) (hmp : m.testBit p = true) (hx : x ≤ sN) (ht : t < 100) : Ctr G 2 yX4_seers cX4_seers 6 (some .int) [.ref 241, .int (nI x), .int (nI t)] h 0 0 (Pu h (.int (nI (sc_ (fun q => ¬ m.testBit q = true ∧ ss_ A C nC sN S c q x t) sN)))) := by
  refine ctr_of (own := RX4) (nm := "seers") (by decide) (Nat.le_of_ble_eq_true rfl) ?_
  have hm := hL.1
  have hs := hL.2.1
  have hA := hL.2.2.1
  have h3 := sv_s hv
  refine v_aload_n dX4_seers_0 rfl rfl ?_
  refine v_getR fX4_33 dX4_seers_1 (mK_obj hm) (mR_watched hm) ?_ fcA_I
  refine v_bipush (v := 100) dX4_seers_4 (by decide) ?_
  refine v_iload_n dX4_seers_6 rfl rfl ?_
  refine v_imul dX4_seers_7 ?_
  refine v_iload_n dX4_seers_8 rfl rfl ?_
  refine v_iadd dX4_seers_9 ?_
  refine v_iald dX4_seers_10 (mK_watched hm) (ix_add (ix_mul (ix_lit _) rfl) rfl) (by first | assumption | omega) ?_
  rw [LD_wat hL hx ht]
  refine v_istore_n dX4_seers_11 rfl (by decide) ?_
  refine v_join 28 (fun z => z = nI (sc_ (fun q => ¬ q = p ∧ ld_ A C nC S c q t) sN)) (fun z hz => ?_) (fun hj28 => ?_)
  · skip
    subst hz
    refine v_istore dX4_seers_28 (by decide) ?_
    refine v_iload_n dX4_seers_30 rfl rfl ?_
    refine v_iload dX4_seers_31 rfl ?_
    refine v_iconst (v := (-1)) dX4_seers_33 (by decide) ?_
    refine v_ixor dX4_seers_34 ?_
    refine v_iand dX4_seers_35 ?_
    rw [and_cm (wa_lt h3.2)]
    refine v_istore_n dX4_seers_36 rfl (by decide) ?_
    refine v_iconst (v := 0) dX4_seers_37 (by decide) ?_
    refine v_istore dX4_seers_38 (by decide) ?_
    refine v_loc2 (by repeat' (first | with_reducible exact lsub_n | with_reducible refine lsub_c ?_ ?_ | with_reducible refine lk_hit ?_ | with_reducible refine lk_miss (by decide) ?_ ?_ | (first | exact rfl | (simp only [sc_0, Nat.or_zero]; exact rfl)))) (v_lp1 (fun (k : Nat) => sN - k) (fun (k : Nat) => k ≤ sN) (fun (k : Nat) => [(0, .ref 241), (1, .int (nI x)), (2, .int (nI t)), (3, .int (nI ((wa_ A C nC sN S x t &&& (511 ^^^ sc_ (fun q => ¬ q = p ∧ ld_ A C nC S c q t) sN)) ||| sc_ (fun q => x = sN ∧ (¬ q = p ∧ ld_ A C nC S c q t) ∧ A (100 + q) ≤ li_ A C S t nC) k))), (4, .int (nI (sc_ (fun q => ¬ q = p ∧ ld_ A C nC S c q t) sN))), (5, .int (nI k))]) (fun _ => []) (fun (k : Nat) => h) ?_ 0 (Nat.zero_le _))
    intro k hI IH
    refine v_iload dX4_seers_40 rfl ?_
    refine v_aload_n dX4_seers_42 rfl rfl ?_
    refine v_getI fX4_24 dX4_seers_43 (mK_obj hm) ?_
    rw [hs]
    refine v_icmp_ge (tgt := 99) dX4_seers_46 (by decide) (fun b46 => ?_) (fun b46 => ?_)
    · skip
      rw [nI_leI (by omega) (by omega)] at b46
      have hk : sN = k := by omega
      subst hk
      refine v_iload_n dX4_seers_99 rfl rfl ?_
      refine v_aload_n dX4_seers_100 rfl rfl ?_
      refine v_getI fX4_318 dX4_seers_101 (mK_obj hm) ?_
      rw [hw]
      refine v_iand dX4_seers_104 ?_
      rw [and_cm (Nat.or_lt_two_pow (n := 9) (Nat.lt_of_le_of_lt Nat.and_le_left (wa_lt h3.2)) (sc_lt9 h3.2)), seer_eq h3.2 hmp hx]
      exact v_reti dX4_seers_105 rfl (Pu_i rfl)
    · skip
      rw [nI_leI (by omega) (by omega)] at b46
      have hk : k < sN := by omega
      refine v_iload_n dX4_seers_49 rfl rfl ?_
      refine v_aload_n dX4_seers_50 rfl rfl ?_
      refine v_getI fX4_24 dX4_seers_51 (mK_obj hm) ?_
      rw [hs]
      refine v_icmp_ne (tgt := 99) dX4_seers_54 (by decide) (fun b54 => ?_) (fun b54 => ?_)
      · skip
        have hq : ¬ (fun q => x = sN ∧ (¬ q = p ∧ ld_ A C nC S c q t) ∧ A (100 + q) ≤ li_ A C S t nC) k := fun z => b54 (congrArg nI z.1)
        rw [show sc_ (fun q => x = sN ∧ (¬ q = p ∧ ld_ A C nC S c q t) ∧ A (100 + q) ≤ li_ A C S t nC) k = sc_ (fun q => x = sN ∧ (¬ q = p ∧ ld_ A C nC S c q t) ∧ A (100 + q) ≤ li_ A C S t nC) sN from by rw [sc_n (fun k _ z => b54 (congrArg nI z.1)), sc_n (fun k _ z => b54 (congrArg nI z.1))]]
        refine v_iload_n dX4_seers_99 rfl rfl ?_
        refine v_aload_n dX4_seers_100 rfl rfl ?_
        refine v_getI fX4_318 dX4_seers_101 (mK_obj hm) ?_
        rw [hw]
        refine v_iand dX4_seers_104 ?_
        rw [and_cm (Nat.or_lt_two_pow (n := 9) (Nat.lt_of_le_of_lt Nat.and_le_left (wa_lt h3.2)) (sc_lt9 h3.2)), seer_eq h3.2 hmp hx]
        exact v_reti dX4_seers_105 rfl (Pu_i rfl)
      · skip
        have hxs : x = sN := (nI_eq (by omega) (by omega)).mp b54
        refine v_iload dX4_seers_57 rfl ?_
        refine v_iload dX4_seers_59 rfl ?_
        refine v_pS mtX4_has q1859 q1860 dX4_seers_61 (c_X4_has _ _) (by decide) ?_
        refine v_if_eq (tgt := 93) dX4_seers_64 (by decide) (fun b64 => ?_) (fun b64 => ?_)
        · skip
          rw [b2i_0, has_bit (Nat.lt_trans (sc_lt9 h3.2) (by decide)) (by omega), sc_bit] at b64
          have hq : ¬ (fun q => x = sN ∧ (¬ q = p ∧ ld_ A C nC S c q t) ∧ A (100 + q) ≤ li_ A C S t nC) k := fun z => b64 ⟨hk, z.2.1⟩
          refine v_iinc dX4_seers_93 rfl (by first | with_reducible exact nI_inc _ | exact rfl) (by decide) ?_
          refine v_goto (tgt := 40) dX4_seers_96 (by decide) ?_
          refine v_loc2 (l' := [(0, .ref 241), (1, .int (nI x)), (2, .int (nI t)), (3, .int (nI ((wa_ A C nC sN S x t &&& (511 ^^^ sc_ (fun q => ¬ q = p ∧ ld_ A C nC S c q t) sN)) ||| sc_ (fun q => x = sN ∧ (¬ q = p ∧ ld_ A C nC S c q t) ∧ A (100 + q) ≤ li_ A C S t nC) (k + 1)))), (4, .int (nI (sc_ (fun q => ¬ q = p ∧ ld_ A C nC S c q t) sN))), (5, .int (nI (k + 1)))]) (by (first | rw [sc_st hq, ← Nat.or_assoc] | rw [sc_sf hq]); exact (by repeat' (first | with_reducible exact lsub_n | with_reducible refine lsub_c ?_ ?_ | with_reducible refine lk_hit ?_ | with_reducible refine lk_miss (by decide) ?_ ?_ | exact rfl))) (IH (k + 1) (by omega) (by omega))
        · skip
          rw [b2i_n0, has_bit (Nat.lt_trans (sc_lt9 h3.2) (by decide)) (by omega), sc_bit] at b64
          refine v_aload_n dX4_seers_67 rfl rfl ?_
          refine v_getR fX4_27 dX4_seers_68 (mK_obj hm) (mR_lit hm) ?_ fcA_I
          refine v_iload_n dX4_seers_71 rfl rfl ?_
          refine v_iald dX4_seers_72 (mK_lit hm) rfl (by first | assumption | omega) ?_
          rw [LD_lit hL ht]
          refine v_aload_n dX4_seers_73 rfl rfl ?_
          refine v_getR fX4_17 dX4_seers_74 (mK_obj hm) (mR_all hm) ?_ fcA_I
          refine v_bipush (v := 100) dX4_seers_77 (by decide) ?_
          refine v_iload dX4_seers_79 rfl ?_
          refine v_iadd dX4_seers_81 ?_
          refine v_iald dX4_seers_82 (mK_all hm) (ix_add (ix_lit _) rfl) (by first | assumption | omega) ?_
          rw [hA]
          refine v_icmp_lt (tgt := 93) dX4_seers_83 (by decide) (fun b83 => ?_) (fun b83 => ?_)
          · skip
            have hq : ¬ (fun q => x = sN ∧ (¬ q = p ∧ ld_ A C nC S c q t) ∧ A (100 + q) ≤ li_ A C S t nC) k := fun z => Int32.not_lt.mpr z.2.2 b83
            refine v_iinc dX4_seers_93 rfl (by first | with_reducible exact nI_inc _ | exact rfl) (by decide) ?_
            refine v_goto (tgt := 40) dX4_seers_96 (by decide) ?_
            refine v_loc2 (l' := [(0, .ref 241), (1, .int (nI x)), (2, .int (nI t)), (3, .int (nI ((wa_ A C nC sN S x t &&& (511 ^^^ sc_ (fun q => ¬ q = p ∧ ld_ A C nC S c q t) sN)) ||| sc_ (fun q => x = sN ∧ (¬ q = p ∧ ld_ A C nC S c q t) ∧ A (100 + q) ≤ li_ A C S t nC) (k + 1)))), (4, .int (nI (sc_ (fun q => ¬ q = p ∧ ld_ A C nC S c q t) sN))), (5, .int (nI (k + 1)))]) (by (first | rw [sc_st hq, ← Nat.or_assoc] | rw [sc_sf hq]); exact (by repeat' (first | with_reducible exact lsub_n | with_reducible refine lsub_c ?_ ?_ | with_reducible refine lk_hit ?_ | with_reducible refine lk_miss (by decide) ?_ ?_ | exact rfl))) (IH (k + 1) (by omega) (by omega))
          · skip
            have hq : (fun q => x = sN ∧ (¬ q = p ∧ ld_ A C nC S c q t) ∧ A (100 + q) ≤ li_ A C S t nC) k := ⟨hxs, b64.2, Int32.not_lt.mp b83⟩
            refine v_iload_n dX4_seers_86 rfl rfl ?_
            refine v_iconst (v := 1) dX4_seers_87 (by decide) ?_
            refine v_iload dX4_seers_88 rfl ?_
            refine v_ishl dX4_seers_90 ?_
            refine v_ior dX4_seers_91 ?_
            rw [or_sh (by omega)]
            refine v_istore_n dX4_seers_92 rfl (by decide) ?_
            refine v_iinc dX4_seers_93 rfl (by first | with_reducible exact nI_inc _ | exact rfl) (by decide) ?_
            refine v_goto (tgt := 40) dX4_seers_96 (by decide) ?_
            refine v_loc2 (l' := [(0, .ref 241), (1, .int (nI x)), (2, .int (nI t)), (3, .int (nI ((wa_ A C nC sN S x t &&& (511 ^^^ sc_ (fun q => ¬ q = p ∧ ld_ A C nC S c q t) sN)) ||| sc_ (fun q => x = sN ∧ (¬ q = p ∧ ld_ A C nC S c q t) ∧ A (100 + q) ≤ li_ A C S t nC) (k + 1)))), (4, .int (nI (sc_ (fun q => ¬ q = p ∧ ld_ A C nC S c q t) sN))), (5, .int (nI (k + 1)))]) (by (first | rw [sc_st hq, ← Nat.or_assoc] | rw [sc_sf hq]); exact (by repeat' (first | with_reducible exact lsub_n | with_reducible refine lsub_c ?_ ?_ | with_reducible refine lk_hit ?_ | with_reducible refine lk_miss (by decide) ?_ ?_ | exact rfl))) (IH (k + 1) (by omega) (by omega))
  · skip
    refine v_aload_n dX4_seers_12 rfl rfl ?_
    refine v_getI fX4_312 dX4_seers_13 (mK_obj hm) ?_
    refine v_if_ne (tgt := 23) dX4_seers_16 (by decide) (fun b16 => ?_) (fun b16 => ?_)
    · skip
      refine v_aload_n dX4_seers_23 rfl rfl ?_
      refine v_iload_n dX4_seers_24 rfl rfl ?_
      refine v_pV mtX4_ledBy q2020 q2022 qs90 rfl (by decide) dX4_seers_25 (c_X4_ledBy hv hL hp hP rfl ht) (mK_obj hm) (by decide) ?_
      rw [hc]
      exact hj28 _ (by first | rfl | (rw [hc] at b16; subst b16; rw [sc_n (fun k hk z => ld_0 (q := k) hv (by omega) z.2)]; rfl))
    · skip
      refine v_iconst (v := 0) dX4_seers_19 (by decide) ?_
      refine v_goto (tgt := 28) dX4_seers_20 (by decide) ?_
      exact hj28 _ (by first | rfl | (rw [hc] at b16; subst b16; rw [sc_n (fun k hk z => ld_0 (q := k) hv (by omega) z.2)]; rfl))

def fn_ (A : Nat → Int32) (C : Nat → Nat → Int32) (nC sN : Nat) (S : Int32) (sw a t : Nat) : Prop := (sw.testBit (a % 2) = true ∧ A (2870 + 100 * a + t) = -1 ∧ ¬ tied_ C nC S a t) ∨ (¬ sw.testBit (a % 2) = true ∧ free_ A C nC sN S a t)
def hds_ (A : Nat → Int32) (q a t : Nat) : Prop := A (2870 + 100 * (2 * q) + t) = nI a ∨ A (2870 + 100 * (2 * q + 1) + t) = nI a
theorem hb_hs {A : Nat → Int32} {sN t a k : Nat} : (hb_ A t a (2 * sN)).testBit k = true ↔ k < sN ∧ hds_ A k a t := by
  rw [hb_bit]
  unfold hds_
  constructor
  · rintro ⟨j, h1, h2, h3⟩
    refine ⟨by omega, ?_⟩
    rcases (show j = 2 * k ∨ j = 2 * k + 1 by omega) with e | e <;> subst e
    · exact Or.inl h3
    · exact Or.inr h3
  · rintro ⟨h1, h2 | h2⟩
    · exact ⟨2 * k, by omega, by omega, h2⟩
    · exact ⟨2 * k + 1, by omega, by omega, h2⟩
theorem and0 {a m : Nat} (ha : a < 512) : a &&& (511 ^^^ m) = 0 ↔ ∀ k, a.testBit k = true → m.testBit k = true := by
  constructor
  · intro h k hk
    have h9 : k < 9 := by
      refine Nat.lt_of_not_le fun z => ?_
      have : a.testBit k = false := Nat.testBit_lt_two_pow (Nat.lt_of_lt_of_le ha (Nat.pow_le_pow_right (n := 2) (by decide) z))
      rw [this] at hk
      exact absurd hk (by decide)
    have e : (a &&& (511 ^^^ m)).testBit k = false := by rw [h, Nat.zero_testBit]
    rw [Nat.testBit_and, hk, Bool.true_and] at e
    cases hm : m.testBit k
    · rw [(c511' h9).mpr (by rw [hm]; decide)] at e; exact absurd e (by decide)
    · rfl
  · intro h
    refine Nat.eq_of_testBit_eq fun k => ?_
    rw [Nat.zero_testBit, Nat.testBit_and]
    cases hk : a.testBit k
    · rfl
    · rw [Bool.true_and, c511, h k hk]
      have h9 : k < 9 := by
        refine Nat.lt_of_not_le fun z => ?_
        have : a.testBit k = false := Nat.testBit_lt_two_pow (Nat.lt_of_lt_of_le ha (Nat.pow_le_pow_right (n := 2) (by decide) z))
        rw [this] at hk
        exact absurd hk (by decide)
      simp [h9]
def gu_ (A : Nat → Int32) (C : Nat → Nat → Int32) (nC sN : Nat) (S c : Int32) (m sw p x0 g a t : Nat) : Prop := ∀ q, q < sN → ¬ m.testBit q = true → (sw.testBit (a % 2) = true ∨ ¬ hds_ A q a t) ∧ ¬ ss_ A C nC sN S c q p t ∧ ¬ ss_ A C nC sN S c q x0 t ∧ ¬ ss_ A C nC sN S c q g t
def wr_ (A : Nat → Int32) (C : Nat → Nat → Int32) (nC sN : Nat) (S : Int32) (m x0 a n t : Nat) : Prop := ∃ i, i < t ∧ t ≤ i + n ∧ free_ A C nC sN S a i ∧ ∀ j, i ≤ j → j < t → ∀ q, q < sN → ¬ m.testBit q = true → ¬ see_ A C nC S q (nI x0) j
theorem c_X4_isFreeNow {G : Gv} {h : AH} {A : Nat → Int32} {C : Nat → Nat → Int32} {sN nC : Nat} {S : Int32} (hv : sv_ok A sN) (hL : LD_ A C nC sN S h) {sw a t : Nat} (hsw : hp_I h 241 41 = nI sw) (hsw4 : sw < 4) (ha : a < 2 * sN) (ht : t < 100) : Ctr G 2 yX4_isFreeNow cX4_isFreeNow 4 (some .boolean) [.ref 241, .int (nI a), .int (nI t)] h 0 0 (Pu h (.int (b2c (fn_ A C nC sN S sw a t)))) := by
  refine ctr_of (own := RX4) (nm := "isFreeNow") (by decide) (Nat.le_of_ble_eq_true rfl) ?_
  have hm := hL.1
  have hs := hL.2.1
  have hA := hL.2.2.1
  have h3 := sv_s hv
  refine v_bipush (v := nI 100) dX4_isFreeNow_0 (by decide) ?_
  refine v_iload_n dX4_isFreeNow_2 rfl rfl ?_
  refine v_imul dX4_isFreeNow_3 ?_
  refine v_iload_n dX4_isFreeNow_4 rfl rfl ?_
  refine v_iadd dX4_isFreeNow_5 ?_
  refine v_istore_n dX4_isFreeNow_6 rfl (by decide) ?_
  refine v_aload_n dX4_isFreeNow_7 rfl rfl ?_
  refine v_getI fX4_321 dX4_isFreeNow_8 (mK_obj hm) ?_
  rw [hsw]
  refine v_iload_n dX4_isFreeNow_11 rfl rfl ?_
  refine v_iconst (v := nI 2) dX4_isFreeNow_12 (by decide) ?_
  refine v_irem dX4_isFreeNow_13 (by decide) ?_
  rw [pk_rem (by omega) (by decide) (by decide)]
  refine v_pS mtX4_has q1859 q1860 dX4_isFreeNow_14 (c_X4_has _ _) (by decide) ?_
  refine v_if_eq (tgt := 51) dX4_isFreeNow_17 (by decide) (fun b17 => ?_) (fun b17 => ?_)
  · skip
    rw [b2i_0, has_bit (Nat.lt_trans hsw4 (by decide)) (by omega)] at b17
    refine v_aload_n dX4_isFreeNow_51 rfl rfl ?_
    refine v_getR fX4_45 dX4_isFreeNow_52 (mK_obj hm) (mR_isFree hm) ?_ fcA_Z
    refine v_iload_n dX4_isFreeNow_55 rfl rfl ?_
    refine v_zald dX4_isFreeNow_56 (mK_isFree hm) (ix_add (ix_mul rfl rfl) rfl) (by first | assumption | omega) ?_
    rw [LD_free hL ha ht]
    refine v_reti dX4_isFreeNow_57 (by first | rfl | exact rt_c | exact rt_z | exact Or.inr rfl) (Pu_i ?_)
    first | exact (b2c_t hq).symm | exact (b2c_f hq).symm | exact b2c_c ⟨fun z => Or.inr ⟨b17, z⟩, fun z => z.elim (fun y => absurd y.1 b17) (fun y => y.2)⟩
  · skip
    rw [b2i_n0, has_bit (Nat.lt_trans hsw4 (by decide)) (by omega)] at b17
    refine v_aload_n dX4_isFreeNow_20 rfl rfl ?_
    refine v_getR fX4_17 dX4_isFreeNow_21 (mK_obj hm) (mR_all hm) ?_ fcA_I
    refine v_sipush (v := 2870) dX4_isFreeNow_24 (by decide) ?_
    refine v_iload_n dX4_isFreeNow_27 rfl rfl ?_
    refine v_iadd dX4_isFreeNow_28 ?_
    refine v_iald dX4_isFreeNow_29 (mK_all hm) (ix_add (ix_lit _) (ix_add (ix_mul rfl rfl) rfl)) (by first | assumption | omega) ?_
    rw [hA, show 2870 + (100 * a + t) = 2870 + 100 * a + t by omega]
    refine v_iconst (v := (-1)) dX4_isFreeNow_30 (by decide) ?_
    refine v_icmp_ne (tgt := 47) dX4_isFreeNow_31 (by decide) (fun b31 => ?_) (fun b31 => ?_)
    · skip
      have hq : ¬ fn_ A C nC sN S sw a t := fun z => z.elim (fun y => b31 y.2.1) (fun y => y.1 b17)
      refine v_iconst (v := 0) dX4_isFreeNow_47 (by decide) ?_
      refine v_goto (tgt := 57) dX4_isFreeNow_48 (by decide) ?_
      refine v_reti dX4_isFreeNow_57 (by first | rfl | exact rt_c | exact rt_z | exact Or.inr rfl) (Pu_i ?_)
      first | exact (b2c_t hq).symm | exact (b2c_f hq).symm | exact b2c_c ⟨fun z => Or.inr ⟨b17, z⟩, fun z => z.elim (fun y => absurd y.1 b17) (fun y => y.2)⟩
    · skip
      refine v_aload_n dX4_isFreeNow_34 rfl rfl ?_
      refine v_getR fX4_48 dX4_isFreeNow_35 (mK_obj hm) (mR_isTied hm) ?_ fcA_Z
      refine v_iload_n dX4_isFreeNow_38 rfl rfl ?_
      refine v_zald dX4_isFreeNow_39 (mK_isTied hm) (ix_add (ix_mul rfl rfl) rfl) (by first | assumption | omega) ?_
      rw [LD_tied hL ha ht]
      refine v_if_ne (tgt := 47) dX4_isFreeNow_40 (by decide) (fun b40 => ?_) (fun b40 => ?_)
      · skip
        rw [b2c_n0] at b40
        have hq : ¬ fn_ A C nC sN S sw a t := fun z => z.elim (fun y => y.2.2 b40) (fun y => y.1 b17)
        refine v_iconst (v := 0) dX4_isFreeNow_47 (by decide) ?_
        refine v_goto (tgt := 57) dX4_isFreeNow_48 (by decide) ?_
        refine v_reti dX4_isFreeNow_57 (by first | rfl | exact rt_c | exact rt_z | exact Or.inr rfl) (Pu_i ?_)
        first | exact (b2c_t hq).symm | exact (b2c_f hq).symm | exact b2c_c ⟨fun z => Or.inr ⟨b17, z⟩, fun z => z.elim (fun y => absurd y.1 b17) (fun y => y.2)⟩
      · skip
        rw [b2c_0] at b40
        have hq : fn_ A C nC sN S sw a t := Or.inl ⟨b17, b31, b40⟩
        refine v_iconst (v := 1) dX4_isFreeNow_43 (by decide) ?_
        refine v_goto (tgt := 57) dX4_isFreeNow_44 (by decide) ?_
        refine v_reti dX4_isFreeNow_57 (by first | rfl | exact rt_c | exact rt_z | exact Or.inr rfl) (Pu_i ?_)
        first | exact (b2c_t hq).symm | exact (b2c_f hq).symm | exact b2c_c ⟨fun z => Or.inr ⟨b17, z⟩, fun z => z.elim (fun y => absurd y.1 b17) (fun y => y.2)⟩

theorem c_X4_goesUnseen {G : Gv} {h : AH} {A : Nat → Int32} {C : Nat → Nat → Int32} {sN nC : Nat} {S : Int32} (hv : sv_ok A sN) (hL : LD_ A C nC sN S h) {p x0 g m sw a t : Nat} {c : Int32} (hp : p < sN) (hP : hp_I h 241 36 = nI p) (hc : hp_I h 241 40 = c) (hw : hp_I h 241 37 = nI m ^^^ -1) (hmp : m.testBit p = true) (hx : x0 ≤ sN) (hX : hp_I h 241 38 = nI x0) (hg : g ≤ sN) (hG : hp_I h 241 39 = nI g) (hsw : hp_I h 241 41 = nI sw) (hsw4 : sw < 4) (ha : a < 2 * sN) (ht : t < 100) : Ctr G 3 yX4_goesUnseen cX4_goesUnseen 4 (some .boolean) [.ref 241, .int (nI a), .int (nI t)] h 0 0 (Pu h (.int (b2c (gu_ A C nC sN S c m sw p x0 g a t)))) := by
  refine ctr_of (own := RX4) (nm := "goesUnseen") (by decide) (Nat.le_of_ble_eq_true rfl) ?_
  have hm := hL.1
  have hs := hL.2.1
  have hA := hL.2.2.1
  have h3 := sv_s hv
  refine v_join 33 (fun z => (z = 0 ↔ (sw.testBit (a % 2) = true ∨ ∀ k, (hb_ A t a (2 * sN)).testBit k = true → m.testBit k = true))) (fun z hz => ?_) (fun hj33 => ?_)
  · skip
    refine v_istore_n dX4_goesUnseen_33 rfl (by decide) ?_
    refine v_iload_n dX4_goesUnseen_34 rfl rfl ?_
    refine v_if_ne (tgt := 78) dX4_goesUnseen_35 (by decide) (fun b35 => ?_) (fun b35 => ?_)
    · skip
      have hq : ¬ gu_ A C nC sN S c m sw p x0 g a t := fun y => b35 (hz.mpr (Classical.byContradiction fun n => n (Or.inr (fun k hk => Classical.byContradiction fun u => ((y k (hb_hs.mp hk).1 u).1).elim (fun v => n (Or.inl v)) (fun v => v (hb_hs.mp hk).2)))))
      refine v_iconst (v := 0) dX4_goesUnseen_78 (by decide) ?_
      refine v_reti dX4_goesUnseen_79 (by first | rfl | exact rt_c | exact rt_z | exact Or.inr rfl) (Pu_i ?_)
      first | exact (b2c_t hq).symm | exact (b2c_f hq).symm
    · skip
      refine v_aload_n dX4_goesUnseen_38 rfl rfl ?_
      refine v_aload_n dX4_goesUnseen_39 rfl rfl ?_
      refine v_getI fX4_309 dX4_goesUnseen_40 (mK_obj hm) ?_
      rw [hP]
      refine v_iload_n dX4_goesUnseen_43 rfl rfl ?_
      refine v_pV mtX4_seers q2016 q2018 qs89 rfl (by decide) dX4_goesUnseen_44 (c_X4_seers hv hL hp hP hc hw hmp ?_ ?_) (mK_obj hm) (by decide) ?_
      · omega
      · omega
      refine v_if_ne (tgt := 78) dX4_goesUnseen_47 (by decide) (fun b47 => ?_) (fun b47 => ?_)
      · skip
        rw [show (0 : Int32) = nI 0 from rfl, nI_eq (Nat.lt_trans (sc_lt9 h3.2) (by decide)) (by decide), sc_z] at b47
        have hq : ¬ gu_ A C nC sN S c m sw p x0 g a t := fun y => b47 (fun q hq u => (y q hq u.1).2.1 u.2)
        refine v_iconst (v := 0) dX4_goesUnseen_78 (by decide) ?_
        refine v_reti dX4_goesUnseen_79 (by first | rfl | exact rt_c | exact rt_z | exact Or.inr rfl) (Pu_i ?_)
        first | exact (b2c_t hq).symm | exact (b2c_f hq).symm
      · skip
        rw [show (0 : Int32) = nI 0 from rfl, nI_eq (Nat.lt_trans (sc_lt9 h3.2) (by decide)) (by decide), sc_z] at b47
        refine v_aload_n dX4_goesUnseen_50 rfl rfl ?_
        refine v_aload_n dX4_goesUnseen_51 rfl rfl ?_
        refine v_getI fX4_327 dX4_goesUnseen_52 (mK_obj hm) ?_
        rw [hX]
        refine v_iload_n dX4_goesUnseen_55 rfl rfl ?_
        refine v_pV mtX4_seers q2016 q2018 qs89 rfl (by decide) dX4_goesUnseen_56 (c_X4_seers hv hL hp hP hc hw hmp ?_ ?_) (mK_obj hm) (by decide) ?_
        · omega
        · omega
        refine v_if_ne (tgt := 78) dX4_goesUnseen_59 (by decide) (fun b59 => ?_) (fun b59 => ?_)
        · skip
          rw [show (0 : Int32) = nI 0 from rfl, nI_eq (Nat.lt_trans (sc_lt9 h3.2) (by decide)) (by decide), sc_z] at b59
          have hq : ¬ gu_ A C nC sN S c m sw p x0 g a t := fun y => b59 (fun q hq u => (y q hq u.1).2.2.1 u.2)
          refine v_iconst (v := 0) dX4_goesUnseen_78 (by decide) ?_
          refine v_reti dX4_goesUnseen_79 (by first | rfl | exact rt_c | exact rt_z | exact Or.inr rfl) (Pu_i ?_)
          first | exact (b2c_t hq).symm | exact (b2c_f hq).symm
        · skip
          rw [show (0 : Int32) = nI 0 from rfl, nI_eq (Nat.lt_trans (sc_lt9 h3.2) (by decide)) (by decide), sc_z] at b59
          refine v_aload_n dX4_goesUnseen_62 rfl rfl ?_
          refine v_aload_n dX4_goesUnseen_63 rfl rfl ?_
          refine v_getI fX4_330 dX4_goesUnseen_64 (mK_obj hm) ?_
          rw [hG]
          refine v_iload_n dX4_goesUnseen_67 rfl rfl ?_
          refine v_pV mtX4_seers q2016 q2018 qs89 rfl (by decide) dX4_goesUnseen_68 (c_X4_seers hv hL hp hP hc hw hmp ?_ ?_) (mK_obj hm) (by decide) ?_
          · omega
          · omega
          refine v_if_ne (tgt := 78) dX4_goesUnseen_71 (by decide) (fun b71 => ?_) (fun b71 => ?_)
          · skip
            rw [show (0 : Int32) = nI 0 from rfl, nI_eq (Nat.lt_trans (sc_lt9 h3.2) (by decide)) (by decide), sc_z] at b71
            have hq : ¬ gu_ A C nC sN S c m sw p x0 g a t := fun y => b71 (fun q hq u => (y q hq u.1).2.2.2 u.2)
            refine v_iconst (v := 0) dX4_goesUnseen_78 (by decide) ?_
            refine v_reti dX4_goesUnseen_79 (by first | rfl | exact rt_c | exact rt_z | exact Or.inr rfl) (Pu_i ?_)
            first | exact (b2c_t hq).symm | exact (b2c_f hq).symm
          · skip
            rw [show (0 : Int32) = nI 0 from rfl, nI_eq (Nat.lt_trans (sc_lt9 h3.2) (by decide)) (by decide), sc_z] at b71
            have hq : gu_ A C nC sN S c m sw p x0 g a t := fun q hq hm => ⟨(hz.mp b35).elim Or.inl (fun y => Or.inr (fun u => hm (y q (hb_hs.mpr ⟨hq, u⟩)))), fun u => b47 q hq ⟨hm, u⟩, fun u => b59 q hq ⟨hm, u⟩, fun u => b71 q hq ⟨hm, u⟩⟩
            refine v_iconst (v := 1) dX4_goesUnseen_74 (by decide) ?_
            refine v_goto (tgt := 79) dX4_goesUnseen_75 (by decide) ?_
            refine v_reti dX4_goesUnseen_79 (by first | rfl | exact rt_c | exact rt_z | exact Or.inr rfl) (Pu_i ?_)
            first | exact (b2c_t hq).symm | exact (b2c_f hq).symm
  · skip
    refine v_aload_n dX4_goesUnseen_0 rfl rfl ?_
    refine v_getI fX4_321 dX4_goesUnseen_1 (mK_obj hm) ?_
    rw [hsw]
    refine v_iload_n dX4_goesUnseen_4 rfl rfl ?_
    refine v_iconst (v := nI 2) dX4_goesUnseen_5 (by decide) ?_
    refine v_irem dX4_goesUnseen_6 (by decide) ?_
    rw [pk_rem (by omega) (by decide) (by decide)]
    refine v_pS mtX4_has q1859 q1860 dX4_goesUnseen_7 (c_X4_has _ _) (by decide) ?_
    refine v_if_eq (tgt := 17) dX4_goesUnseen_10 (by decide) (fun b10 => ?_) (fun b10 => ?_)
    · skip
      rw [b2i_0, has_bit (Nat.lt_trans hsw4 (by decide)) (by omega)] at b10
      refine v_aload_n dX4_goesUnseen_17 rfl rfl ?_
      refine v_getR fX4_39 dX4_goesUnseen_18 (mK_obj hm) (mR_heldBy hm) ?_ fcA_I
      refine v_bipush (v := 100) dX4_goesUnseen_21 (by decide) ?_
      refine v_iload_n dX4_goesUnseen_23 rfl rfl ?_
      refine v_imul dX4_goesUnseen_24 ?_
      refine v_iload_n dX4_goesUnseen_25 rfl rfl ?_
      refine v_iadd dX4_goesUnseen_26 ?_
      refine v_iald dX4_goesUnseen_27 (mK_heldBy hm) (ix_add (ix_mul (ix_lit _) rfl) rfl) (by first | assumption | omega) ?_
      rw [LD_held hL ha ht]
      refine v_aload_n dX4_goesUnseen_28 rfl rfl ?_
      refine v_getI fX4_318 dX4_goesUnseen_29 (mK_obj hm) ?_
      rw [hw]
      refine v_iand dX4_goesUnseen_32 ?_
      rw [and_cm (hb_lt _ _ _ _ (by omega))]
      exact hj33 _ (by first | exact ⟨fun _ => Or.inl b10, fun _ => rfl⟩ | exact (by rw [show (0 : Int32) = nI 0 from rfl, nI_eq (Nat.lt_of_le_of_lt Nat.and_le_left (Nat.lt_trans (hb_lt _ _ _ _ (by omega)) (by decide))) (by decide), and0 (hb_lt _ _ _ _ (by omega))]; exact ⟨Or.inr, fun y => y.resolve_left b10⟩))
    · skip
      rw [b2i_n0, has_bit (Nat.lt_trans hsw4 (by decide)) (by omega)] at b10
      refine v_iconst (v := 0) dX4_goesUnseen_13 (by decide) ?_
      refine v_goto (tgt := 33) dX4_goesUnseen_14 (by decide) ?_
      exact hj33 _ (by first | exact ⟨fun _ => Or.inl b10, fun _ => rfl⟩ | exact (by rw [show (0 : Int32) = nI 0 from rfl, nI_eq (Nat.lt_of_le_of_lt Nat.and_le_left (Nat.lt_trans (hb_lt _ _ _ _ (by omega)) (by decide))) (by decide), and0 (hb_lt _ _ _ _ (by omega))]; exact ⟨Or.inr, fun y => y.resolve_left b10⟩))

