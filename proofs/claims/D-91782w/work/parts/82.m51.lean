set_option maxRecDepth 100000
/-- what the run's cell tells -/
def RN_ (h : AH) (p f x0 g s e sw c : Nat) : Prop := hp_I h 94 0 = nI p ∧ hp_I h 94 1 = nI f ∧ hp_I h 94 3 = nI x0 ∧ hp_I h 94 4 = nI g ∧ hp_I h 94 5 = nI s ∧ hp_I h 94 6 = nI e ∧ hp_I h 94 7 = nI sw ∧ hp_I h 94 8 = nI c
theorem ms_bit {p f q : Nat} : (2 ^ p ||| f).testBit q = true ↔ q = p ∨ f.testBit q = true := by
  rw [Nat.testBit_or, Bool.or_eq_true, Nat.testBit_two_pow, decide_eq_true_eq]
  exact ⟨fun z => z.imp (fun y => y.symm) (fun y => y), fun z => z.imp (fun y => y.symm) (fun y => y)⟩
theorem c_X2_isFriend {G : Gv} {h : AH} {b nC sN : Nat} {A : Nat → Int32} {C : Nat → Nat → Int32} {S : Int32} (hq : XQ_ h b A C nC sN S) {p f x0 g s e sw c : Nat} (hr : RN_ h p f x0 g s e sw c) {q : Nat} (hp : p < 9) (hf : f < 512) (hq9 : q < 9) : Ctr G 0 yX2_isFriend cX2_isFriend 2 (some .boolean) [.ref 94, .int (nI q)] h 0 0 (Pu h (.int (b2c ((2 ^ p ||| f).testBit q = true)))) := by
  refine ctr_of (own := RX2) (nm := "isFriend") (by decide) (Nat.le_of_ble_eq_true rfl) ?_
  have hq9 := hq
  obtain ⟨hX, hS, ⟨DC, cC, fC, hCA, hCE⟩, hv, hc⟩ := hq9
  have h39 := sv_s hv
  have h8 := hc.1
  have hr9 := hr
  obtain ⟨r0, r1, r3, r4, r5, r6, r7, r8⟩ := hr
  refine v_iload_n dX2_isFriend_0 rfl rfl ?_
  refine v_aload_n dX2_isFriend_1 rfl rfl ?_
  refine v_getI fX2_15 dX2_isFriend_2 (xc_run hX.2.2.2.2) ?_
  rw [r0]
  refine v_icmp_eq (tgt := 20) dX2_isFriend_5 (by decide) (fun b5 => ?_) (fun b5 => ?_)
  · skip
    have hz9 : (2 ^ p ||| f).testBit q = true := ms_bit.mpr (Or.inl ((nI_eq (by omega) (by omega)).mp b5))
    refine v_iconst (v := 1) dX2_isFriend_20 (by decide) ?_
    refine v_goto (tgt := 25) dX2_isFriend_21 (by decide) ?_
    first | exact v_reti dX2_isFriend_25 rfl (Pu_i (b2c_t hz9).symm) | exact v_reti dX2_isFriend_25 rfl (Pu_i (b2c_f hz9).symm)
  · skip
    have h5 : ¬ q = p := fun z => b5 ((nI_eq (by omega) (by omega)).mpr z)
    refine v_aload_n dX2_isFriend_8 rfl rfl ?_
    refine v_getI fX2_19 dX2_isFriend_9 (xc_run hX.2.2.2.2) ?_
    rw [r1]
    refine v_iload_n dX2_isFriend_12 rfl rfl ?_
    refine v_ishr dX2_isFriend_13 ?_
    refine v_iconst (v := 1) dX2_isFriend_14 (by decide) ?_
    refine v_iand dX2_isFriend_15 ?_
    refine v_iconst (v := 1) dX2_isFriend_16 (by decide) ?_
    refine v_icmp_ne (tgt := 24) dX2_isFriend_17 (by decide) (fun b17 => ?_) (fun b17 => ?_)
    · skip
      have hz9 : ¬ (2 ^ p ||| f).testBit q = true := fun z => (ms_bit.mp z).elim h5 (fun y => b17 ((has_bit (by omega) (by omega)).mpr y))
      refine v_iconst (v := 0) dX2_isFriend_24 (by decide) ?_
      first | exact v_reti dX2_isFriend_25 rfl (Pu_i (b2c_t hz9).symm) | exact v_reti dX2_isFriend_25 rfl (Pu_i (b2c_f hz9).symm)
    · skip
      have hz9 : (2 ^ p ||| f).testBit q = true := ms_bit.mpr (Or.inr ((has_bit (by omega) (by omega)).mp b17))
      refine v_iconst (v := 1) dX2_isFriend_20 (by decide) ?_
      refine v_goto (tgt := 25) dX2_isFriend_21 (by decide) ?_
      first | exact v_reti dX2_isFriend_25 rfl (Pu_i (b2c_t hz9).symm) | exact v_reti dX2_isFriend_25 rfl (Pu_i (b2c_f hz9).symm)

theorem c_X2_hand {G : Gv} {h : AH} {b nC sN : Nat} {A : Nat → Int32} {C : Nat → Nat → Int32} {S : Int32} (hq : XQ_ h b A C nC sN S) {p f x0 g s e sw c : Nat} (hr : RN_ h p f x0 g s e sw c) {sd : Nat} : Ctr G 0 yX2_hand cX2_hand 2 (some .int) [.ref 94, .int (nI sd)] h 0 0 (Pu h (.int (nI (2 * p + sd)))) := by
  refine ctr_of (own := RX2) (nm := "hand") (by decide) (Nat.le_of_ble_eq_true rfl) ?_
  have hq9 := hq
  obtain ⟨hX, hS, ⟨DC, cC, fC, hCA, hCE⟩, hv, hc⟩ := hq9
  have h39 := sv_s hv
  have h8 := hc.1
  have hr9 := hr
  obtain ⟨r0, r1, r3, r4, r5, r6, r7, r8⟩ := hr
  refine v_iconst (v := 2) dX2_hand_0 (by decide) ?_
  refine v_aload_n dX2_hand_1 rfl rfl ?_
  refine v_getI fX2_15 dX2_hand_2 (xc_run hX.2.2.2.2) ?_
  rw [r0]
  refine v_imul dX2_hand_5 ?_
  refine v_iload_n dX2_hand_6 rfl rfl ?_
  refine v_iadd dX2_hand_7 ?_
  exact v_reti dX2_hand_8 rfl (Pu_i (ix_add (ix_mul (ix_lit 2) rfl) rfl))

theorem c_X2_eyes {G : Gv} {h : AH} {b nC sN : Nat} {A : Nat → Int32} {C : Nat → Nat → Int32} {S : Int32} (hq : XQ_ h b A C nC sN S) {p f x0 g s e sw c : Nat} (hr : RN_ h p f x0 g s e sw c) {q t : Nat} (hq9 : q < 9) (ht : t < 100) : Ctr G 7 yX2_eyes cX2_eyes 4 (some .int) [.ref 94, .int (nI q), .int (nI t)] h 0 0 (Pu h (.int (ey_ A C nC sN S (nI c) q t))) := by
  refine ctr_of (own := RX2) (nm := "eyes") (by decide) (Nat.le_of_ble_eq_true rfl) ?_
  have hq9 := hq
  obtain ⟨hX, hS, ⟨DC, cC, fC, hCA, hCE⟩, hv, hc⟩ := hq9
  have h39 := sv_s hv
  have h8 := hc.1
  have hr9 := hr
  obtain ⟨r0, r1, r3, r4, r5, r6, r7, r8⟩ := hr
  have hor := ord_m (S := S) (p := q) (t := t) hc h39.2
  refine v_aload_n dX2_eyes_0 rfl rfl ?_
  refine v_getR fX2_3 dX2_eyes_1 (xc_run hX.2.2.2.2) (xc_run0 hX.2.2.2.2) ?_
  refine v_iload_n dX2_eyes_4 rfl rfl ?_
  refine v_iload_n dX2_eyes_5 rfl rfl ?_
  refine v_pVN mtX0_ordered (nw_m q845 rfl) q734 qs16 rfl (by decide) dX2_eyes_6 (c_X0_ordered hq) hX.1 (by first | decide | omega) ?_
  refine v_istore_n dX2_eyes_9 rfl (by decide) ?_
  refine v_iload_n dX2_eyes_10 rfl rfl ?_
  refine v_iconst (v := (-1)) dX2_eyes_11 (by decide) ?_
  refine v_icmp_eq (tgt := 19) dX2_eyes_12 (by decide) (fun b12 => ?_) (fun b12 => ?_)
  · skip
    have hru := (hor.resolve_right (fun z => z.1 b12)).2
    refine v_aload_n dX2_eyes_19 rfl rfl ?_
    refine v_getI fX2_26 dX2_eyes_20 (xc_run hX.2.2.2.2) ?_
    rw [r8]
    refine v_aload_n dX2_eyes_23 rfl rfl ?_
    refine v_getR fX2_3 dX2_eyes_24 (xc_run hX.2.2.2.2) (xc_run0 hX.2.2.2.2) ?_
    refine v_getR fX2_29 dX2_eyes_27 hX.1 hX.2.2.1 ?_
    refine v_getR fX2_33 dX2_eyes_30 (si_K hS) (si_Rfirm hS) ?_
    refine v_iload_n dX2_eyes_33 rfl rfl ?_
    refine v_iald dX2_eyes_34 (si_firm hS) rfl (by first | assumption | omega) ?_
    rw [si_Dfirm hS _ hq9]
    refine v_icmp_le (tgt := 48) dX2_eyes_35 (by decide) (fun b35 => ?_) (fun b35 => ?_)
    · skip
      have hez : ey_ A C nC sN S (nI c) q t = eyes_ A C nC S q t := cf_f (fun z => Int32.not_le.mpr z.2 b35)
      refine v_aload_n dX2_eyes_48 rfl rfl ?_
      refine v_getR fX2_3 dX2_eyes_49 (xc_run hX.2.2.2.2) (xc_run0 hX.2.2.2.2) ?_
      refine v_iload_n dX2_eyes_52 rfl rfl ?_
      refine v_iload_n dX2_eyes_53 rfl rfl ?_
      refine v_pVN mtX0_eyesOf (nw_m q846 rfl) q730 qs15 rfl (by decide) dX2_eyes_54 (c_X0_eyesOf hq ?_ ?_) hX.1 (by first | decide | omega) ?_
      · omega
      · omega
      exact v_reti dX2_eyes_57 rfl (Pu_i hez.symm)
    · skip
      have hez : ey_ A C nC sN S (nI c) q t = nI sN := cf_t ⟨hru, Int32.not_le.mp b35⟩
      refine v_aload_n dX2_eyes_38 rfl rfl ?_
      refine v_getR fX2_3 dX2_eyes_39 (xc_run hX.2.2.2.2) (xc_run0 hX.2.2.2.2) ?_
      refine v_getI fX2_39 dX2_eyes_42 hX.1 ?_
      rw [hX.2.1]
      refine v_goto (tgt := 57) dX2_eyes_45 (by decide) ?_
      exact v_reti dX2_eyes_57 rfl (Pu_i hez.symm)
  · skip
    have hru := (hor.resolve_left (fun z => b12 z.1)).2
    have hez : ey_ A C nC sN S (nI c) q t = ord_ C nC S q t := by
      unfold ey_
      rw [cf_f (fun z => hru.1 z.1)]
      unfold eyes_
      rw [if_neg hru.1]
      exact hru.2.symm
    refine v_iload_n dX2_eyes_15 rfl rfl ?_
    refine v_goto (tgt := 57) dX2_eyes_16 (by decide) ?_
    exact v_reti dX2_eyes_57 rfl (Pu_i hez.symm)

theorem c_X2_isSeen {G : Gv} {h : AH} {b nC sN : Nat} {A : Nat → Int32} {C : Nat → Nat → Int32} {S : Int32} (hq : XQ_ h b A C nC sN S) {p f x0 g s e sw c : Nat} (hr : RN_ h p f x0 g s e sw c) {q x t : Nat} (hq9 : q < 9) (ht : t < 100) : Ctr G 8 yX2_isSeen cX2_isSeen 4 (some .boolean) [.ref 94, .int (nI q), .int (nI x), .int (nI t)] h 0 0 (Pu h (.int (b2c (ss_ A C nC sN S (nI c) q x t)))) := by
  refine ctr_of (own := RX2) (nm := "isSeen") (by decide) (Nat.le_of_ble_eq_true rfl) ?_
  have hq9 := hq
  obtain ⟨hX, hS, ⟨DC, cC, fC, hCA, hCE⟩, hv, hc⟩ := hq9
  have h39 := sv_s hv
  have h8 := hc.1
  have hr9 := hr
  obtain ⟨r0, r1, r3, r4, r5, r6, r7, r8⟩ := hr
  refine v_aload_n dX2_isSeen_0 rfl rfl ?_
  refine v_iload_n dX2_isSeen_1 rfl rfl ?_
  refine v_iload_n dX2_isSeen_2 rfl rfl ?_
  refine v_pV mtX2_eyes q841 q842 q843 rfl (by decide) dX2_isSeen_3 (c_X2_eyes hq hr9 ?_ ?_) (xc_run hX.2.2.2.2) (by first | decide | omega) ?_
  · omega
  · omega
  refine v_iload_n dX2_isSeen_6 rfl rfl ?_
  refine v_icmp_ne (tgt := 37) dX2_isSeen_7 (by decide) (fun b7 => ?_) (fun b7 => ?_)
  · skip
    have hz9 : ¬ ss_ A C nC sN S (nI c) q x t := fun z => b7 z.1
    refine v_iconst (v := 0) dX2_isSeen_37 (by decide) ?_
    first | exact v_reti dX2_isSeen_38 rfl (Pu_i (b2c_t hz9).symm) | exact v_reti dX2_isSeen_38 rfl (Pu_i (b2c_f hz9).symm)
  · skip
    refine v_aload_n dX2_isSeen_10 rfl rfl ?_
    refine v_getR fX2_3 dX2_isSeen_11 (xc_run hX.2.2.2.2) (xc_run0 hX.2.2.2.2) ?_
    refine v_iload_n dX2_isSeen_14 rfl rfl ?_
    refine v_pVN mtX0_lightAt (nw_m q880 rfl) q716 qs14 rfl (by decide) dX2_isSeen_15 (c_X0_lightAt hq ?_) hX.1 (by first | decide | omega) ?_
    · first | assumption | omega
    refine v_aload_n dX2_isSeen_18 rfl rfl ?_
    refine v_getR fX2_3 dX2_isSeen_19 (xc_run hX.2.2.2.2) (xc_run0 hX.2.2.2.2) ?_
    refine v_getR fX2_29 dX2_isSeen_22 hX.1 hX.2.2.1 ?_
    refine v_getR fX2_52 dX2_isSeen_25 (si_K hS) (si_Rneed hS) ?_
    refine v_iload_n dX2_isSeen_28 rfl rfl ?_
    refine v_iald dX2_isSeen_29 (si_need hS) rfl (by first | assumption | omega) ?_
    rw [si_Dneed hS _ hq9]
    refine v_icmp_lt (tgt := 37) dX2_isSeen_30 (by decide) (fun b30 => ?_) (fun b30 => ?_)
    · skip
      have hz9 : ¬ ss_ A C nC sN S (nI c) q x t := fun z => Int32.not_lt.mpr z.2 b30
      refine v_iconst (v := 0) dX2_isSeen_37 (by decide) ?_
      first | exact v_reti dX2_isSeen_38 rfl (Pu_i (b2c_t hz9).symm) | exact v_reti dX2_isSeen_38 rfl (Pu_i (b2c_f hz9).symm)
    · skip
      have hz9 : ss_ A C nC sN S (nI c) q x t := ⟨b7, Int32.not_lt.mp b30⟩
      refine v_iconst (v := 1) dX2_isSeen_33 (by decide) ?_
      refine v_goto (tgt := 38) dX2_isSeen_34 (by decide) ?_
      first | exact v_reti dX2_isSeen_38 rfl (Pu_i (b2c_t hz9).symm) | exact v_reti dX2_isSeen_38 rfl (Pu_i (b2c_f hz9).symm)

theorem c_X2_isUnseen {G : Gv} {h : AH} {b nC sN : Nat} {A : Nat → Int32} {C : Nat → Nat → Int32} {S : Int32} (hq : XQ_ h b A C nC sN S) {p f x0 g s e sw c : Nat} (hr : RN_ h p f x0 g s e sw c) {x t : Nat} (hp : p < sN) (hf : f < 512) (ht : t < 100) : Ctr G 9 yX2_isUnseen cX2_isUnseen 4 (some .boolean) [.ref 94, .int (nI x), .int (nI t)] h 0 0 (Pu h (.int (b2c (∀ q, q < sN → ¬ (2 ^ p ||| f).testBit q = true → ¬ ss_ A C nC sN S (nI c) q x t)))) := by
  refine ctr_of (own := RX2) (nm := "isUnseen") (by decide) (Nat.le_of_ble_eq_true rfl) ?_
  have hq9 := hq
  obtain ⟨hX, hS, ⟨DC, cC, fC, hCA, hCE⟩, hv, hc⟩ := hq9
  have h39 := sv_s hv
  have h8 := hc.1
  have hr9 := hr
  obtain ⟨r0, r1, r3, r4, r5, r6, r7, r8⟩ := hr
  refine v_iconst (v := 0) dX2_isUnseen_0 (by decide) ?_
  refine v_istore_n dX2_isUnseen_1 rfl (by decide) ?_
  refine v_loc2 (by repeat' (first | exact trivial | refine And.intro ?_ ?_ | exact rfl)) (v_lp1 (fun (k : Nat) => sN - k) (fun (k : Nat) => k ≤ sN ∧ ∀ q, q < k → ¬ (2 ^ p ||| f).testBit q = true → ¬ ss_ A C nC sN S (nI c) q x t) (fun (k : Nat) => [(0, .ref 94), (1, .int (nI x)), (2, .int (nI t)), (3, .int (nI k))]) (fun _ => []) (fun (k : Nat) => h) ?_ 0 ⟨Nat.zero_le _, fun q hq => absurd hq (Nat.not_lt_zero _)⟩)
  intro k ⟨hk, hI⟩ IH
  refine v_iload_n dX2_isUnseen_2 rfl rfl ?_
  refine v_aload_n dX2_isUnseen_3 rfl rfl ?_
  refine v_getR fX2_3 dX2_isUnseen_4 (xc_run hX.2.2.2.2) (xc_run0 hX.2.2.2.2) ?_
  refine v_getI fX2_39 dX2_isUnseen_7 hX.1 ?_
  rw [hX.2.1]
  refine v_icmp_ge (tgt := 39) dX2_isUnseen_10 (by decide) (fun b10 => ?_) (fun b10 => ?_)
  · skip
    have hkn : sN ≤ k := (nI_leI (by omega) (by omega)).mp b10
    have hz9 : ∀ q, q < sN → ¬ (2 ^ p ||| f).testBit q = true → ¬ ss_ A C nC sN S (nI c) q x t := fun q h1 => hI q (by omega)
    refine v_iconst (v := 1) dX2_isUnseen_39 (by decide) ?_
    first | exact v_reti dX2_isUnseen_40 rfl (Pu_i (b2c_t hz9).symm) | exact v_reti dX2_isUnseen_40 rfl (Pu_i (b2c_f hz9).symm)
  · skip
    have hkn : k < sN := Nat.lt_of_not_le (fun z => b10 ((nI_leI (by omega) (by omega)).mpr z))
    refine v_aload_n dX2_isUnseen_13 rfl rfl ?_
    refine v_iload_n dX2_isUnseen_14 rfl rfl ?_
    refine v_pV mtX2_isFriend q837 q838 q839 rfl (by decide) dX2_isUnseen_15 (c_X2_isFriend hq hr9 ?_ ?_ ?_) (xc_run hX.2.2.2.2) (by first | decide | omega) ?_
    · omega
    · omega
    · omega
    refine v_if_ne (tgt := 33) dX2_isUnseen_18 (by decide) (fun b18 => ?_) (fun b18 => ?_)
    · skip
      have hnx : ¬ (2 ^ p ||| f).testBit k = true → ¬ ss_ A C nC sN S (nI c) k x t := fun y => absurd (b2c_n0.mp b18) y
      refine v_iinc dX2_isUnseen_33 rfl (by first | with_reducible exact nI_inc _ | exact rfl) (by decide) ?_
      refine v_goto (tgt := 2) dX2_isUnseen_36 (by decide) ?_
      have hI9 : ∀ q, q < k + 1 → ¬ (2 ^ p ||| f).testBit q = true → ¬ ss_ A C nC sN S (nI c) q x t := fun q hq => by
        rcases Nat.lt_or_ge q k with z | z
        · exact hI q z
        · obtain rfl : q = k := by omega
          exact hnx
      exact v_loc2 (by repeat' (first | exact trivial | refine And.intro ?_ ?_ | exact rfl)) (IH (k + 1) ⟨hkn, hI9⟩ (by omega))
    · skip
      refine v_aload_n dX2_isUnseen_21 rfl rfl ?_
      refine v_iload_n dX2_isUnseen_22 rfl rfl ?_
      refine v_iload_n dX2_isUnseen_23 rfl rfl ?_
      refine v_iload_n dX2_isUnseen_24 rfl rfl ?_
      refine v_pV mtX2_isSeen q876 q877 q878 rfl (by decide) dX2_isUnseen_25 (c_X2_isSeen hq hr9 ?_ ?_) (xc_run hX.2.2.2.2) (by first | decide | omega) ?_
      · omega
      · omega
      refine v_if_eq (tgt := 33) dX2_isUnseen_28 (by decide) (fun b28 => ?_) (fun b28 => ?_)
      · skip
        have hnx : ¬ (2 ^ p ||| f).testBit k = true → ¬ ss_ A C nC sN S (nI c) k x t := fun _ => b2c_0.mp b28
        refine v_iinc dX2_isUnseen_33 rfl (by first | with_reducible exact nI_inc _ | exact rfl) (by decide) ?_
        refine v_goto (tgt := 2) dX2_isUnseen_36 (by decide) ?_
        have hI9 : ∀ q, q < k + 1 → ¬ (2 ^ p ||| f).testBit q = true → ¬ ss_ A C nC sN S (nI c) q x t := fun q hq => by
          rcases Nat.lt_or_ge q k with z | z
          · exact hI q z
          · obtain rfl : q = k := by omega
            exact hnx
        exact v_loc2 (by repeat' (first | exact trivial | refine And.intro ?_ ?_ | exact rfl)) (IH (k + 1) ⟨hkn, hI9⟩ (by omega))
      · skip
        have hz9 : ¬ ∀ q, q < sN → ¬ (2 ^ p ||| f).testBit q = true → ¬ ss_ A C nC sN S (nI c) q x t := fun z => z k hkn (by first | exact b2c_0.mp b18 | exact b2c_0.mp (Classical.not_not.mp b18)) (b2c_n0.mp b28)
        refine v_iconst (v := 0) dX2_isUnseen_31 (by decide) ?_
        first | exact v_reti dX2_isUnseen_32 rfl (Pu_i (b2c_t hz9).symm) | exact v_reti dX2_isUnseen_32 rfl (Pu_i (b2c_f hz9).symm)

theorem c_X2_isAway {G : Gv} {h : AH} {b nC sN : Nat} {A : Nat → Int32} {C : Nat → Nat → Int32} {S : Int32} (hq : XQ_ h b A C nC sN S) {p f x0 g s e sw c : Nat} (hr : RN_ h p f x0 g s e sw c) {t : Nat} (hp : p < sN) (hf : f < 512) (ht : t < 100) : Ctr G 9 yX2_isAway cX2_isAway 3 (some .boolean) [.ref 94, .int (nI t)] h 0 0 (Pu h (.int (b2c (∀ q, q < sN → ¬ (2 ^ p ||| f).testBit q = true → ¬ ey_ A C nC sN S (nI c) q t = nI p)))) := by
  refine ctr_of (own := RX2) (nm := "isAway") (by decide) (Nat.le_of_ble_eq_true rfl) ?_
  have hq9 := hq
  obtain ⟨hX, hS, ⟨DC, cC, fC, hCA, hCE⟩, hv, hc⟩ := hq9
  have h39 := sv_s hv
  have h8 := hc.1
  have hr9 := hr
  obtain ⟨r0, r1, r3, r4, r5, r6, r7, r8⟩ := hr
  refine v_iconst (v := 0) dX2_isAway_0 (by decide) ?_
  refine v_istore_n dX2_isAway_1 rfl (by decide) ?_
  refine v_loc2 (by repeat' (first | exact trivial | refine And.intro ?_ ?_ | exact rfl)) (v_lp1 (fun (k : Nat) => sN - k) (fun (k : Nat) => k ≤ sN ∧ ∀ q, q < k → ¬ (2 ^ p ||| f).testBit q = true → ¬ ey_ A C nC sN S (nI c) q t = nI p) (fun (k : Nat) => [(0, .ref 94), (1, .int (nI t)), (2, .int (nI k))]) (fun _ => []) (fun (k : Nat) => h) ?_ 0 ⟨Nat.zero_le _, fun q hq => absurd hq (Nat.not_lt_zero _)⟩)
  intro k ⟨hk, hI⟩ IH
  refine v_iload_n dX2_isAway_2 rfl rfl ?_
  refine v_aload_n dX2_isAway_3 rfl rfl ?_
  refine v_getR fX2_3 dX2_isAway_4 (xc_run hX.2.2.2.2) (xc_run0 hX.2.2.2.2) ?_
  refine v_getI fX2_39 dX2_isAway_7 hX.1 ?_
  rw [hX.2.1]
  refine v_icmp_ge (tgt := 42) dX2_isAway_10 (by decide) (fun b10 => ?_) (fun b10 => ?_)
  · skip
    have hkn : sN ≤ k := (nI_leI (by omega) (by omega)).mp b10
    have hz9 : ∀ q, q < sN → ¬ (2 ^ p ||| f).testBit q = true → ¬ ey_ A C nC sN S (nI c) q t = nI p := fun q h1 => hI q (by omega)
    refine v_iconst (v := 1) dX2_isAway_42 (by decide) ?_
    first | exact v_reti dX2_isAway_43 rfl (Pu_i (b2c_t hz9).symm) | exact v_reti dX2_isAway_43 rfl (Pu_i (b2c_f hz9).symm)
  · skip
    have hkn : k < sN := Nat.lt_of_not_le (fun z => b10 ((nI_leI (by omega) (by omega)).mpr z))
    refine v_aload_n dX2_isAway_13 rfl rfl ?_
    refine v_iload_n dX2_isAway_14 rfl rfl ?_
    refine v_pV mtX2_isFriend q837 q838 q839 rfl (by decide) dX2_isAway_15 (c_X2_isFriend hq hr9 ?_ ?_ ?_) (xc_run hX.2.2.2.2) (by first | decide | omega) ?_
    · omega
    · omega
    · omega
    refine v_if_ne (tgt := 36) dX2_isAway_18 (by decide) (fun b18 => ?_) (fun b18 => ?_)
    · skip
      have hnx : ¬ (2 ^ p ||| f).testBit k = true → ¬ ey_ A C nC sN S (nI c) k t = nI p := fun y => absurd (b2c_n0.mp b18) y
      refine v_iinc dX2_isAway_36 rfl (by first | with_reducible exact nI_inc _ | exact rfl) (by decide) ?_
      refine v_goto (tgt := 2) dX2_isAway_39 (by decide) ?_
      have hI9 : ∀ q, q < k + 1 → ¬ (2 ^ p ||| f).testBit q = true → ¬ ey_ A C nC sN S (nI c) q t = nI p := fun q hq => by
        rcases Nat.lt_or_ge q k with z | z
        · exact hI q z
        · obtain rfl : q = k := by omega
          exact hnx
      exact v_loc2 (by repeat' (first | exact trivial | refine And.intro ?_ ?_ | exact rfl)) (IH (k + 1) ⟨hkn, hI9⟩ (by omega))
    · skip
      refine v_aload_n dX2_isAway_21 rfl rfl ?_
      refine v_iload_n dX2_isAway_22 rfl rfl ?_
      refine v_iload_n dX2_isAway_23 rfl rfl ?_
      refine v_pV mtX2_eyes q841 q842 q843 rfl (by decide) dX2_isAway_24 (c_X2_eyes hq hr9 ?_ ?_) (xc_run hX.2.2.2.2) (by first | decide | omega) ?_
      · omega
      · omega
      refine v_aload_n dX2_isAway_27 rfl rfl ?_
      refine v_getI fX2_15 dX2_isAway_28 (xc_run hX.2.2.2.2) ?_
      rw [r0]
      refine v_icmp_ne (tgt := 36) dX2_isAway_31 (by decide) (fun b31 => ?_) (fun b31 => ?_)
      · skip
        have hnx : ¬ (2 ^ p ||| f).testBit k = true → ¬ ey_ A C nC sN S (nI c) k t = nI p := fun _ => b31
        refine v_iinc dX2_isAway_36 rfl (by first | with_reducible exact nI_inc _ | exact rfl) (by decide) ?_
        refine v_goto (tgt := 2) dX2_isAway_39 (by decide) ?_
        have hI9 : ∀ q, q < k + 1 → ¬ (2 ^ p ||| f).testBit q = true → ¬ ey_ A C nC sN S (nI c) q t = nI p := fun q hq => by
          rcases Nat.lt_or_ge q k with z | z
          · exact hI q z
          · obtain rfl : q = k := by omega
            exact hnx
        exact v_loc2 (by repeat' (first | exact trivial | refine And.intro ?_ ?_ | exact rfl)) (IH (k + 1) ⟨hkn, hI9⟩ (by omega))
      · skip
        have hz9 : ¬ ∀ q, q < sN → ¬ (2 ^ p ||| f).testBit q = true → ¬ ey_ A C nC sN S (nI c) q t = nI p := fun z => z k hkn (b2c_0.mp b18) b31
        refine v_iconst (v := 0) dX2_isAway_34 (by decide) ?_
        first | exact v_reti dX2_isAway_35 rfl (Pu_i (b2c_t hz9).symm) | exact v_reti dX2_isAway_35 rfl (Pu_i (b2c_f hz9).symm)

theorem c_X2_feels {G : Gv} {h : AH} {b nC sN : Nat} {A : Nat → Int32} {C : Nat → Nat → Int32} {S : Int32} (hq : XQ_ h b A C nC sN S) {q a t : Nat} (hq9 : q < 9) (ht : t < 100) : Ctr G 0 yX2_feels cX2_feels 4 (some .boolean) [.ref 94, .int (nI q), .int (nI a), .int (nI t)] h 0 0 (Pu h (.int (b2c (hds_ A q a t)))) := by
  refine ctr_of (own := RX2) (nm := "feels") (by decide) (Nat.le_of_ble_eq_true rfl) ?_
  have hq9 := hq
  obtain ⟨hX, hS, ⟨DC, cC, fC, hCA, hCE⟩, hv, hc⟩ := hq9
  have h39 := sv_s hv
  have h8 := hc.1
  refine v_aload_n dX2_feels_0 rfl rfl ?_
  refine v_getR fX2_3 dX2_feels_1 (xc_run hX.2.2.2.2) (xc_run0 hX.2.2.2.2) ?_
  refine v_getR fX2_29 dX2_feels_4 hX.1 hX.2.2.1 ?_
  refine v_getR fX2_66 dX2_feels_7 (si_K hS) (si_Rtruly hS) ?_
  refine v_iconst (v := 2) dX2_feels_10 (by decide) ?_
  refine v_iload_n dX2_feels_11 rfl rfl ?_
  refine v_imul dX2_feels_12 ?_
  refine v_aald (t := 4) dX2_feels_13 (si_truly hS) (by decide) (ix_mul (ix_lit _) rfl) (by first | assumption | omega) (si_trulyV hS (by first | assumption | omega)) ?_ (by decide)
  refine v_iload_n dX2_feels_14 rfl rfl ?_
  refine v_iald dX2_feels_15 (si_trulyK hS _ (by first | assumption | omega)) rfl (by first | assumption | omega) ?_
  rw [si_Dtruly hS _ (show 2 * q < 18 by omega) _ ht]
  refine v_iload_n dX2_feels_16 rfl rfl ?_
  refine v_icmp_eq (tgt := 42) dX2_feels_17 (by decide) (fun b17 => ?_) (fun b17 => ?_)
  · skip
    have hz9 : hds_ A q a t := Or.inl b17
    refine v_iconst (v := 1) dX2_feels_42 (by decide) ?_
    refine v_goto (tgt := 47) dX2_feels_43 (by decide) ?_
    first | exact v_reti dX2_feels_47 rfl (Pu_i (b2c_t hz9).symm) | exact v_reti dX2_feels_47 rfl (Pu_i (b2c_f hz9).symm)
  · skip
    refine v_aload_n dX2_feels_20 rfl rfl ?_
    refine v_getR fX2_3 dX2_feels_21 (xc_run hX.2.2.2.2) (xc_run0 hX.2.2.2.2) ?_
    refine v_getR fX2_29 dX2_feels_24 hX.1 hX.2.2.1 ?_
    refine v_getR fX2_66 dX2_feels_27 (si_K hS) (si_Rtruly hS) ?_
    refine v_iconst (v := 2) dX2_feels_30 (by decide) ?_
    refine v_iload_n dX2_feels_31 rfl rfl ?_
    refine v_imul dX2_feels_32 ?_
    refine v_iconst (v := 1) dX2_feels_33 (by decide) ?_
    refine v_iadd dX2_feels_34 ?_
    refine v_aald (t := 4) dX2_feels_35 (si_truly hS) (by decide) (ix_add (ix_mul (ix_lit _) rfl) (ix_lit _)) (by first | assumption | omega) (si_trulyV hS (by first | assumption | omega)) ?_ (by decide)
    refine v_iload_n dX2_feels_36 rfl rfl ?_
    refine v_iald dX2_feels_37 (si_trulyK hS _ (by first | assumption | omega)) rfl (by first | assumption | omega) ?_
    rw [si_Dtruly hS _ (show 2 * q + 1 < 18 by omega) _ ht]
    refine v_iload_n dX2_feels_38 rfl rfl ?_
    refine v_icmp_ne (tgt := 46) dX2_feels_39 (by decide) (fun b39 => ?_) (fun b39 => ?_)
    · skip
      have hz9 : ¬ hds_ A q a t := fun z => z.elim b17 b39
      refine v_iconst (v := 0) dX2_feels_46 (by decide) ?_
      first | exact v_reti dX2_feels_47 rfl (Pu_i (b2c_t hz9).symm) | exact v_reti dX2_feels_47 rfl (Pu_i (b2c_f hz9).symm)
    · skip
      have hz9 : hds_ A q a t := Or.inr b39
      refine v_iconst (v := 1) dX2_feels_42 (by decide) ?_
      refine v_goto (tgt := 47) dX2_feels_43 (by decide) ?_
      first | exact v_reti dX2_feels_47 rfl (Pu_i (b2c_t hz9).symm) | exact v_reti dX2_feels_47 rfl (Pu_i (b2c_f hz9).symm)

theorem c_X2_isFreeNow {G : Gv} {h : AH} {b nC sN : Nat} {A : Nat → Int32} {C : Nat → Nat → Int32} {S : Int32} (hq : XQ_ h b A C nC sN S) {p f x0 g s e sw c : Nat} (hr : RN_ h p f x0 g s e sw c) {sd t : Nat} (hp : p < sN) (hsw : sw < 4) (hsd : sd < 2) (ht : t < 100) : Ctr G 7 yX2_isFreeNow cX2_isFreeNow 3 (some .boolean) [.ref 94, .int (nI sd), .int (nI t)] h 0 0 (Pu h (.int (b2c (fn_ A C nC sN S sw (2 * p + sd) t)))) := by
  refine ctr_of (own := RX2) (nm := "isFreeNow") (by decide) (Nat.le_of_ble_eq_true rfl) ?_
  have hq9 := hq
  obtain ⟨hX, hS, ⟨DC, cC, fC, hCA, hCE⟩, hv, hc⟩ := hq9
  have h39 := sv_s hv
  have h8 := hc.1
  have hr9 := hr
  obtain ⟨r0, r1, r3, r4, r5, r6, r7, r8⟩ := hr
  have hm2 : (2 * p + sd) % 2 = sd := by omega
  refine v_aload_n dX2_isFreeNow_0 rfl rfl ?_
  refine v_getI fX2_63 dX2_isFreeNow_1 (xc_run hX.2.2.2.2) ?_
  rw [r7]
  refine v_iload_n dX2_isFreeNow_4 rfl rfl ?_
  refine v_ishr dX2_isFreeNow_5 ?_
  refine v_iconst (v := 1) dX2_isFreeNow_6 (by decide) ?_
  refine v_iand dX2_isFreeNow_7 ?_
  refine v_iconst (v := 1) dX2_isFreeNow_8 (by decide) ?_
  refine v_icmp_ne (tgt := 58) dX2_isFreeNow_9 (by decide) (fun b9 => ?_) (fun b9 => ?_)
  · skip
    have h9b : ¬ sw.testBit ((2 * p + sd) % 2) = true := by rw [hm2]; exact fun z => b9 ((has_bit (by omega) (by omega)).mpr z)
    refine v_aload_n dX2_isFreeNow_58 rfl rfl ?_
    refine v_getR fX2_3 dX2_isFreeNow_59 (xc_run hX.2.2.2.2) (xc_run0 hX.2.2.2.2) ?_
    refine v_aload_n dX2_isFreeNow_62 rfl rfl ?_
    refine v_iload_n dX2_isFreeNow_63 rfl rfl ?_
    refine v_pV mtX2_hand q868 q869 q870 rfl (by decide) dX2_isFreeNow_64 (c_X2_hand hq hr9) (xc_run hX.2.2.2.2) (by first | decide | omega) ?_
    refine v_iload_n dX2_isFreeNow_67 rfl rfl ?_
    refine v_pVN mtX0_isFree (nw_m q890 rfl) q629 qs11 rfl (by decide) dX2_isFreeNow_68 (c_X0_isFree hq ?_ ?_) hX.1 (by first | decide | omega) ?_
    · omega
    · omega
    first | exact v_reti dX2_isFreeNow_71 rfl (Pu_i (b2c_t hz9).symm) | exact v_reti dX2_isFreeNow_71 rfl (Pu_i (b2c_f hz9).symm) | exact v_reti dX2_isFreeNow_71 (rt_z01 (b2c_01 _)) (Pu_i (b2c_c ⟨fun z => Or.inr ⟨h9b, z⟩, fun z => z.elim (fun y => absurd y.1 h9b) (fun y => y.2)⟩))
  · skip
    have h9b : sw.testBit ((2 * p + sd) % 2) = true := by rw [hm2]; exact (has_bit (by omega) (by omega)).mp b9
    refine v_aload_n dX2_isFreeNow_12 rfl rfl ?_
    refine v_getR fX2_3 dX2_isFreeNow_13 (xc_run hX.2.2.2.2) (xc_run0 hX.2.2.2.2) ?_
    refine v_getR fX2_29 dX2_isFreeNow_16 hX.1 hX.2.2.1 ?_
    refine v_getR fX2_66 dX2_isFreeNow_19 (si_K hS) (si_Rtruly hS) ?_
    refine v_aload_n dX2_isFreeNow_22 rfl rfl ?_
    refine v_iload_n dX2_isFreeNow_23 rfl rfl ?_
    refine v_pV mtX2_hand q868 q869 q870 rfl (by decide) dX2_isFreeNow_24 (c_X2_hand hq hr9) (xc_run hX.2.2.2.2) (by first | decide | omega) ?_
    refine v_aald (t := 4) dX2_isFreeNow_27 (si_truly hS) (by decide) rfl (by first | assumption | omega) (si_trulyV hS (by first | assumption | omega)) ?_ (by decide)
    refine v_iload_n dX2_isFreeNow_28 rfl rfl ?_
    refine v_iald dX2_isFreeNow_29 (si_trulyK hS _ (by first | assumption | omega)) rfl (by first | assumption | omega) ?_
    rw [si_Dtruly hS _ (show 2 * p + sd < 18 by omega) _ ht]
    refine v_iconst (v := (-1)) dX2_isFreeNow_30 (by decide) ?_
    refine v_icmp_ne (tgt := 54) dX2_isFreeNow_31 (by decide) (fun b31 => ?_) (fun b31 => ?_)
    · skip
      have hz9 : ¬ fn_ A C nC sN S sw (2 * p + sd) t := fun z => z.elim (fun y => b31 y.2.1) (fun y => y.1 h9b)
      refine v_iconst (v := 0) dX2_isFreeNow_54 (by decide) ?_
      refine v_goto (tgt := 71) dX2_isFreeNow_55 (by decide) ?_
      first | exact v_reti dX2_isFreeNow_71 rfl (Pu_i (b2c_t hz9).symm) | exact v_reti dX2_isFreeNow_71 rfl (Pu_i (b2c_f hz9).symm) | exact v_reti dX2_isFreeNow_71 (rt_z01 (b2c_01 _)) (Pu_i (b2c_c ⟨fun z => Or.inr ⟨h9b, z⟩, fun z => z.elim (fun y => absurd y.1 h9b) (fun y => y.2)⟩))
    · skip
      refine v_aload_n dX2_isFreeNow_34 rfl rfl ?_
      refine v_getR fX2_3 dX2_isFreeNow_35 (xc_run hX.2.2.2.2) (xc_run0 hX.2.2.2.2) ?_
      refine v_aload_n dX2_isFreeNow_38 rfl rfl ?_
      refine v_iload_n dX2_isFreeNow_39 rfl rfl ?_
      refine v_pV mtX2_hand q868 q869 q870 rfl (by decide) dX2_isFreeNow_40 (c_X2_hand hq hr9) (xc_run hX.2.2.2.2) (by first | decide | omega) ?_
      refine v_iload_n dX2_isFreeNow_43 rfl rfl ?_
      refine v_pVN mtX0_isTied (nw_m q889 rfl) q633 qs12 rfl (by decide) dX2_isFreeNow_44 (c_X0_isTied hq) hX.1 (by first | decide | omega) ?_
      refine v_if_ne (tgt := 54) dX2_isFreeNow_47 (by decide) (fun b47 => ?_) (fun b47 => ?_)
      · skip
        have hz9 : ¬ fn_ A C nC sN S sw (2 * p + sd) t := fun z => z.elim (fun y => y.2.2 (b2c_n0.mp b47)) (fun y => y.1 h9b)
        refine v_iconst (v := 0) dX2_isFreeNow_54 (by decide) ?_
        refine v_goto (tgt := 71) dX2_isFreeNow_55 (by decide) ?_
        first | exact v_reti dX2_isFreeNow_71 rfl (Pu_i (b2c_t hz9).symm) | exact v_reti dX2_isFreeNow_71 rfl (Pu_i (b2c_f hz9).symm) | exact v_reti dX2_isFreeNow_71 (rt_z01 (b2c_01 _)) (Pu_i (b2c_c ⟨fun z => Or.inr ⟨h9b, z⟩, fun z => z.elim (fun y => absurd y.1 h9b) (fun y => y.2)⟩))
      · skip
        have hz9 : fn_ A C nC sN S sw (2 * p + sd) t := Or.inl ⟨h9b, b31, b2c_0.mp b47⟩
        refine v_iconst (v := 1) dX2_isFreeNow_50 (by decide) ?_
        refine v_goto (tgt := 71) dX2_isFreeNow_51 (by decide) ?_
        first | exact v_reti dX2_isFreeNow_71 rfl (Pu_i (b2c_t hz9).symm) | exact v_reti dX2_isFreeNow_71 rfl (Pu_i (b2c_f hz9).symm) | exact v_reti dX2_isFreeNow_71 (rt_z01 (b2c_01 _)) (Pu_i (b2c_c ⟨fun z => Or.inr ⟨h9b, z⟩, fun z => z.elim (fun y => absurd y.1 h9b) (fun y => y.2)⟩))

theorem hd_half {A : Nat → Int32} {k a t sN : Nat} (hk : k < 2 * sN) (h : A (2870 + 100 * k + t) = nI a) : ∃ q, q < sN ∧ hds_ A q a t := by
  refine ⟨k / 2, by omega, ?_⟩
  unfold hds_
  rcases (show k = 2 * (k / 2) ∨ k = 2 * (k / 2) + 1 by omega) with z | z
  · rw [← z]; exact Or.inl h
  · rw [← z]; exact Or.inr h
theorem c_X2_isHeld {G : Gv} {h : AH} {b nC sN : Nat} {A : Nat → Int32} {C : Nat → Nat → Int32} {S : Int32} (hq : XQ_ h b A C nC sN S) {p f x0 g s e sw c : Nat} (hr : RN_ h p f x0 g s e sw c) {sd t : Nat} (hp : p < sN) (hsd : sd < 2) (ht : t < 100) : Ctr G 1 yX2_isHeld cX2_isHeld 4 (some .boolean) [.ref 94, .int (nI sd), .int (nI t)] h 0 0 (Pu h (.int (b2c (∃ q, q < sN ∧ hds_ A q (2 * p + sd) t)))) := by
  refine ctr_of (own := RX2) (nm := "isHeld") (by decide) (Nat.le_of_ble_eq_true rfl) ?_
  have hq9 := hq
  obtain ⟨hX, hS, ⟨DC, cC, fC, hCA, hCE⟩, hv, hc⟩ := hq9
  have h39 := sv_s hv
  have h8 := hc.1
  have hr9 := hr
  obtain ⟨r0, r1, r3, r4, r5, r6, r7, r8⟩ := hr
  refine v_iconst (v := 0) dX2_isHeld_0 (by decide) ?_
  refine v_istore_n dX2_isHeld_1 rfl (by decide) ?_
  refine v_loc2 (by repeat' (first | exact trivial | refine And.intro ?_ ?_ | exact rfl)) (v_lp1 (fun (k : Nat) => 2 * sN - k) (fun (k : Nat) => k ≤ 2 * sN ∧ ∀ j, j < k → ¬ A (2870 + 100 * j + t) = nI (2 * p + sd)) (fun (k : Nat) => [(0, .ref 94), (1, .int (nI sd)), (2, .int (nI t)), (3, .int (nI k))]) (fun _ => []) (fun (k : Nat) => h) ?_ 0 ⟨Nat.zero_le _, fun j hj => absurd hj (Nat.not_lt_zero _)⟩)
  intro k ⟨hk, hI⟩ IH
  refine v_iload_n dX2_isHeld_2 rfl rfl ?_
  refine v_iconst (v := 2) dX2_isHeld_3 (by decide) ?_
  refine v_aload_n dX2_isHeld_4 rfl rfl ?_
  refine v_getR fX2_3 dX2_isHeld_5 (xc_run hX.2.2.2.2) (xc_run0 hX.2.2.2.2) ?_
  refine v_getI fX2_39 dX2_isHeld_8 hX.1 ?_
  rw [hX.2.1]
  refine v_imul dX2_isHeld_11 ?_
  rw [nI_2]
  refine v_icmp_ge (tgt := 55) dX2_isHeld_12 (by decide) (fun b12 => ?_) (fun b12 => ?_)
  · skip
    have hkn : 2 * sN ≤ k := (nI_leI (by omega) (by omega)).mp b12
    have hz9 : ¬ ∃ q, q < sN ∧ hds_ A q (2 * p + sd) t := fun ⟨q, h1, h2⟩ => h2.elim (fun y => hI (2 * q) (by omega) y) (fun y => hI (2 * q + 1) (by omega) y)
    refine v_iconst (v := 0) dX2_isHeld_55 (by decide) ?_
    first | exact v_reti dX2_isHeld_56 rfl (Pu_i (b2c_t hz9).symm) | exact v_reti dX2_isHeld_56 rfl (Pu_i (b2c_f hz9).symm)
  · skip
    have hkn : k < 2 * sN := Nat.lt_of_not_le (fun z => b12 ((nI_leI (by omega) (by omega)).mpr z))
    refine v_iload_n dX2_isHeld_15 rfl rfl ?_
    refine v_iconst (v := 2) dX2_isHeld_16 (by decide) ?_
    refine v_idiv dX2_isHeld_17 (by decide) ?_
    rw [dv2 (a := k) (by omega)]
    refine v_aload_n dX2_isHeld_18 rfl rfl ?_
    refine v_getI fX2_15 dX2_isHeld_19 (xc_run hX.2.2.2.2) ?_
    rw [r0]
    refine v_icmp_eq (tgt := 49) dX2_isHeld_22 (by decide) (fun b22 => ?_) (fun b22 => ?_)
    · skip
      rw [nI_eq (by omega) (by omega)] at b22
      have hnx : ¬ A (2870 + 100 * k + t) = nI (2 * p + sd) := fun z => by
        rcases sv_truly hv (show k < 18 by omega) ht with y | ⟨j, h1, h2, h3⟩
        · rw [z] at y; exact nI_ne1 (by omega) y
        · rw [z, nI_eq (by omega) (by omega)] at h3; omega
      refine v_iinc dX2_isHeld_49 rfl (by first | with_reducible exact nI_inc _ | exact rfl) (by decide) ?_
      refine v_goto (tgt := 2) dX2_isHeld_52 (by decide) ?_
      have hI9 : ∀ j, j < k + 1 → ¬ A (2870 + 100 * j + t) = nI (2 * p + sd) := fun j hj => by
        rcases Nat.lt_or_ge j k with z | z
        · exact hI j z
        · obtain rfl : j = k := by omega
          exact hnx
      exact v_loc2 (by repeat' (first | exact trivial | refine And.intro ?_ ?_ | exact rfl)) (IH (k + 1) ⟨hkn, hI9⟩ (by omega))
    · skip
      refine v_aload_n dX2_isHeld_25 rfl rfl ?_
      refine v_getR fX2_3 dX2_isHeld_26 (xc_run hX.2.2.2.2) (xc_run0 hX.2.2.2.2) ?_
      refine v_getR fX2_29 dX2_isHeld_29 hX.1 hX.2.2.1 ?_
      refine v_getR fX2_66 dX2_isHeld_32 (si_K hS) (si_Rtruly hS) ?_
      refine v_iload_n dX2_isHeld_35 rfl rfl ?_
      refine v_aald (t := 4) dX2_isHeld_36 (si_truly hS) (by decide) rfl (by first | assumption | omega) (si_trulyV hS (by first | assumption | omega)) ?_ (by decide)
      refine v_iload_n dX2_isHeld_37 rfl rfl ?_
      refine v_iald dX2_isHeld_38 (si_trulyK hS _ (by first | assumption | omega)) rfl (by first | assumption | omega) ?_
      rw [si_Dtruly hS _ (show k < 18 by omega) _ ht]
      refine v_aload_n dX2_isHeld_39 rfl rfl ?_
      refine v_iload_n dX2_isHeld_40 rfl rfl ?_
      refine v_pV mtX2_hand q868 q869 q870 rfl (by decide) dX2_isHeld_41 (c_X2_hand hq hr9) (xc_run hX.2.2.2.2) (by first | decide | omega) ?_
      refine v_icmp_ne (tgt := 49) dX2_isHeld_44 (by decide) (fun b44 => ?_) (fun b44 => ?_)
      · skip
        have hnx := b44
        refine v_iinc dX2_isHeld_49 rfl (by first | with_reducible exact nI_inc _ | exact rfl) (by decide) ?_
        refine v_goto (tgt := 2) dX2_isHeld_52 (by decide) ?_
        have hI9 : ∀ j, j < k + 1 → ¬ A (2870 + 100 * j + t) = nI (2 * p + sd) := fun j hj => by
          rcases Nat.lt_or_ge j k with z | z
          · exact hI j z
          · obtain rfl : j = k := by omega
            exact hnx
        exact v_loc2 (by repeat' (first | exact trivial | refine And.intro ?_ ?_ | exact rfl)) (IH (k + 1) ⟨hkn, hI9⟩ (by omega))
      · skip
        have hz9 : ∃ q, q < sN ∧ hds_ A q (2 * p + sd) t := hd_half (by omega) b44
        refine v_iconst (v := 1) dX2_isHeld_47 (by decide) ?_
        first | exact v_reti dX2_isHeld_48 rfl (Pu_i (b2c_t hz9).symm) | exact v_reti dX2_isHeld_48 rfl (Pu_i (b2c_f hz9).symm)

