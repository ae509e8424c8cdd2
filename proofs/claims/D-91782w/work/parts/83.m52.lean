set_option maxRecDepth 100000
theorem nI_dn2 {m t n : Nat} (hm : m < 900) (ht : t < 1000) (hn : n < 1000) : nI m < nI t - nI n ↔ m + n < t := by
  have e := nI_dn (k := m + 1) (t := t) (n := n) (by omega) ht hn
  rw [nI_pred] at e
  rw [e]; omega
/-- nobody else sees a place in a second -/
def ns_ (A : Nat → Int32) (C : Nat → Nat → Int32) (nC sN : Nat) (S : Int32) (m x0 j : Nat) : Prop := ∀ q, q < sN → ¬ m.testBit q = true → ¬ see_ A C nC S q (nI x0) j
theorem wr_no {A : Nat → Int32} {C : Nat → Nat → Int32} {nC sN m x0 a n s j : Nat} {S : Int32} (hI : ∀ i, j ≤ i → i < s → ¬ free_ A C nC sN S a i) (hn : j = 0 ∨ j + n < s + 1) : ¬ wr_ A C nC sN S m x0 a n s := fun ⟨i, h1, h2, h3, _⟩ => by
  rcases Nat.lt_or_ge i j with z | z
  · omega
  · exact hI i z h1 h3
theorem wr_nv {A : Nat → Int32} {C : Nat → Nat → Int32} {nC sN m x0 a n s j : Nat} {S : Int32} (hj : j < s) (hI : ∀ i, j + 1 ≤ i → i < s → ¬ free_ A C nC sN S a i) (hn : ¬ ns_ A C nC sN S m x0 j) : ¬ wr_ A C nC sN S m x0 a n s := fun ⟨i, h1, h2, h3, h4⟩ => by
  rcases Nat.lt_or_ge i (j + 1) with z | z
  · exact hn (fun q q1 q2 => h4 j (by omega) hj q q1 q2)
  · exact hI i z h1 h3
theorem c_X2_isReady {G : Gv} {h : AH} {b nC sN : Nat} {A : Nat → Int32} {C : Nat → Nat → Int32} {S : Int32} (hq : XQ_ h b A C nC sN S) {p f x0 g s e sw c : Nat} (hr : RN_ h p f x0 g s e sw c) {sd n : Nat} (hp : p < sN) (hf : f < 512) (hsd : sd < 2) (hn : n < 100) (hs : s < 100) : Ctr G 8 yX2_isReady cX2_isReady 5 (some .boolean) [.ref 94, .int (nI sd), .int (nI n)] h 0 0 (Pu h (.int (b2c (wr_ A C nC sN S (2 ^ p ||| f) x0 (2 * p + sd) n s)))) := by
  refine ctr_of (own := RX2) (nm := "isReady") (by decide) (Nat.le_of_ble_eq_true rfl) ?_
  have hq9 := hq
  obtain ⟨hX, hS, ⟨DC, cC, fC, hCA, hCE⟩, hv, hc⟩ := hq9
  have h39 := sv_s hv
  have h8 := hc.1
  have hr9 := hr
  obtain ⟨r0, r1, r3, r4, r5, r6, r7, r8⟩ := hr
  refine v_aload_n dX2_isReady_0 rfl rfl ?_
  refine v_getI fX2_80 dX2_isReady_1 (xc_run hX.2.2.2.2) ?_
  rw [r5]
  refine v_iconst (v := 1) dX2_isReady_4 (by decide) ?_
  refine v_isub dX2_isReady_5 ?_
  refine v_istore_n dX2_isReady_6 rfl (by decide) ?_
  refine v_loc2 (by repeat' (first | exact trivial | refine And.intro ?_ ?_ | exact rfl)) (v_lp1 (fun (j : Nat) => j) (fun (j : Nat) => j ≤ s ∧ ∀ i, j ≤ i → i < s → ¬ free_ A C nC sN S (2 * p + sd) i ∧ ns_ A C nC sN S (2 ^ p ||| f) x0 i) (fun (j : Nat) => [(0, .ref 94), (1, .int (nI sd)), (2, .int (nI n)), (3, .int (nI j - 1))]) (fun _ => []) (fun (j : Nat) => h) ?_ s ⟨Nat.le_refl _, fun i h1 h2 => absurd h2 (Nat.not_lt.mpr h1)⟩)
  intro j ⟨hj, hI⟩ IH
  refine v_iload_n dX2_isReady_7 rfl rfl ?_
  refine v_if_lt (tgt := 94) dX2_isReady_8 (by decide) (fun b8 => ?_) (fun b8 => ?_)
  · skip
    have hj0 := dl_t b8 (by omega)
    subst hj0
    have hz9 := wr_no (m := 2 ^ p ||| f) (x0 := x0) (n := n) (fun i a1 a2 => (hI i a1 a2).1) (Or.inl rfl)
    refine v_iconst (v := 0) dX2_isReady_94 (by decide) ?_
    first | exact v_reti dX2_isReady_95 rfl (Pu_i (b2c_t hz9).symm) | exact v_reti dX2_isReady_95 rfl (Pu_i (b2c_f hz9).symm)
  · skip
    obtain ⟨j, rfl⟩ := dl_f b8
    rw [nI_pred]
    refine v_iload_n dX2_isReady_11 rfl rfl ?_
    refine v_aload_n dX2_isReady_12 rfl rfl ?_
    refine v_getI fX2_80 dX2_isReady_13 (xc_run hX.2.2.2.2) ?_
    rw [r5]
    refine v_iload_n dX2_isReady_16 rfl rfl ?_
    refine v_isub dX2_isReady_17 ?_
    refine v_icmp_lt (tgt := 94) dX2_isReady_18 (by decide) (fun b18 => ?_) (fun b18 => ?_)
    · skip
      rw [nI_dn2 (by omega) (by omega) (by omega)] at b18
      have hz9 := wr_no (m := 2 ^ p ||| f) (x0 := x0) (n := n) (fun i a1 a2 => (hI i a1 a2).1) (Or.inr (by omega))
      refine v_iconst (v := 0) dX2_isReady_94 (by decide) ?_
      first | exact v_reti dX2_isReady_95 rfl (Pu_i (b2c_t hz9).symm) | exact v_reti dX2_isReady_95 rfl (Pu_i (b2c_f hz9).symm)
    · skip
      rw [nI_dn2 (by omega) (by omega) (by omega)] at b18
      refine v_iconst (v := 0) dX2_isReady_21 (by decide) ?_
      refine v_istore dX2_isReady_22 (by decide) ?_
      refine v_loc2 (by repeat' (first | exact trivial | refine And.intro ?_ ?_ | exact rfl)) (v_lp1 (fun (k : Nat) => sN - k) (fun (k : Nat) => k ≤ sN ∧ ∀ q, q < k → ¬ (2 ^ p ||| f).testBit q = true → ¬ see_ A C nC S q (nI x0) j) (fun (k : Nat) => [(0, .ref 94), (1, .int (nI sd)), (2, .int (nI n)), (3, .int (nI j)), (4, .int (nI k))]) (fun _ => []) (fun (k : Nat) => h) ?_ 0 ⟨Nat.zero_le _, fun q hq => absurd hq (Nat.not_lt_zero _)⟩)
      intro k ⟨hk, hK⟩ IK
      refine v_iload dX2_isReady_24 rfl ?_
      refine v_aload_n dX2_isReady_26 rfl rfl ?_
      refine v_getR fX2_3 dX2_isReady_27 (xc_run hX.2.2.2.2) (xc_run0 hX.2.2.2.2) ?_
      refine v_getI fX2_39 dX2_isReady_30 hX.1 ?_
      rw [hX.2.1]
      refine v_icmp_ge (tgt := 70) dX2_isReady_33 (by decide) (fun b33 => ?_) (fun b33 => ?_)
      · skip
        have hkn : sN ≤ k := (nI_leI (by omega) (by omega)).mp b33
        have hns : ns_ A C nC sN S (2 ^ p ||| f) x0 j := fun q a1 a2 => hK q (by omega) a2
        refine v_aload_n dX2_isReady_70 rfl rfl ?_
        refine v_getR fX2_3 dX2_isReady_71 (xc_run hX.2.2.2.2) (xc_run0 hX.2.2.2.2) ?_
        refine v_aload_n dX2_isReady_74 rfl rfl ?_
        refine v_iload_n dX2_isReady_75 rfl rfl ?_
        refine v_pV mtX2_hand q868 q869 q870 rfl (by decide) dX2_isReady_76 (c_X2_hand hq hr9) (xc_run hX.2.2.2.2) (by first | decide | omega) ?_
        refine v_iload_n dX2_isReady_79 rfl rfl ?_
        refine v_pVN mtX0_isFree (nw_m q890 rfl) q629 qs11 rfl (by decide) dX2_isReady_80 (c_X0_isFree hq ?_ ?_) hX.1 (by first | decide | omega) ?_
        · omega
        · omega
        refine v_if_eq (tgt := 88) dX2_isReady_83 (by decide) (fun b83 => ?_) (fun b83 => ?_)
        · skip
          have hnf := b2c_0.mp b83
          refine v_iinc dX2_isReady_88 rfl (nI_dec1 j) (by decide) ?_
          refine v_goto (tgt := 7) dX2_isReady_91 (by decide) ?_
          have hI9 : ∀ i, j ≤ i → i < s → ¬ free_ A C nC sN S (2 * p + sd) i ∧ ns_ A C nC sN S (2 ^ p ||| f) x0 i := fun i a1 a2 => by
            rcases Nat.lt_or_ge j i with z | z
            · exact hI i z a2
            · obtain rfl : i = j := by omega
              exact ⟨hnf, hns⟩
          exact v_loc2 (by repeat' (first | exact trivial | refine And.intro ?_ ?_ | exact rfl)) (IH j ⟨by omega, hI9⟩ (by omega))
        · skip
          have hz9 : wr_ A C nC sN S (2 ^ p ||| f) x0 (2 * p + sd) n s := ⟨j, by omega, by omega, b2c_n0.mp b83, fun i a1 a2 => by
            rcases Nat.lt_or_ge j i with z | z
            · exact (hI i z a2).2
            · obtain rfl : i = j := by omega
              exact hns⟩
          refine v_iconst (v := 1) dX2_isReady_86 (by decide) ?_
          first | exact v_reti dX2_isReady_87 rfl (Pu_i (b2c_t hz9).symm) | exact v_reti dX2_isReady_87 rfl (Pu_i (b2c_f hz9).symm)
      · skip
        have hkn : k < sN := Nat.lt_of_not_le (fun z => b33 ((nI_leI (by omega) (by omega)).mpr z))
        refine v_aload_n dX2_isReady_36 rfl rfl ?_
        refine v_iload dX2_isReady_37 rfl ?_
        refine v_pV mtX2_isFriend q837 q838 q839 rfl (by decide) dX2_isReady_39 (c_X2_isFriend hq hr9 ?_ ?_ ?_) (xc_run hX.2.2.2.2) (by first | decide | omega) ?_
        · omega
        · omega
        · omega
        refine v_if_ne (tgt := 64) dX2_isReady_42 (by decide) (fun b42 => ?_) (fun b42 => ?_)
        · skip
          have hnx : ¬ (2 ^ p ||| f).testBit k = true → ¬ see_ A C nC S k (nI x0) j := fun y => absurd (b2c_n0.mp b42) y
          refine v_iinc dX2_isReady_64 rfl (by first | with_reducible exact nI_inc _ | exact rfl) (by decide) ?_
          refine v_goto (tgt := 24) dX2_isReady_67 (by decide) ?_
          have hK9 : ∀ q, q < k + 1 → ¬ (2 ^ p ||| f).testBit q = true → ¬ see_ A C nC S q (nI x0) j := fun q hq => by
            rcases Nat.lt_or_ge q k with z | z
            · exact hK q z
            · obtain rfl : q = k := by omega
              exact hnx
          exact v_loc2 (by repeat' (first | exact trivial | refine And.intro ?_ ?_ | exact rfl)) (IK (k + 1) ⟨hkn, hK9⟩ (by omega))
        · skip
          refine v_aload_n dX2_isReady_45 rfl rfl ?_
          refine v_getR fX2_3 dX2_isReady_46 (xc_run hX.2.2.2.2) (xc_run0 hX.2.2.2.2) ?_
          refine v_iload dX2_isReady_49 rfl ?_
          refine v_aload_n dX2_isReady_51 rfl rfl ?_
          refine v_getI fX2_83 dX2_isReady_52 (xc_run hX.2.2.2.2) ?_
          rw [r3]
          refine v_iload_n dX2_isReady_55 rfl rfl ?_
          refine v_pVN mtX0_sees (nw_m q898 rfl) q767 qs19 rfl (by decide) dX2_isReady_56 (c_X0_sees hq ?_ ?_ _) hX.1 (by first | decide | omega) ?_
          · omega
          · omega
          refine v_if_eq (tgt := 64) dX2_isReady_59 (by decide) (fun b59 => ?_) (fun b59 => ?_)
          · skip
            have hnx : ¬ (2 ^ p ||| f).testBit k = true → ¬ see_ A C nC S k (nI x0) j := fun _ => b2c_0.mp b59
            refine v_iinc dX2_isReady_64 rfl (by first | with_reducible exact nI_inc _ | exact rfl) (by decide) ?_
            refine v_goto (tgt := 24) dX2_isReady_67 (by decide) ?_
            have hK9 : ∀ q, q < k + 1 → ¬ (2 ^ p ||| f).testBit q = true → ¬ see_ A C nC S q (nI x0) j := fun q hq => by
              rcases Nat.lt_or_ge q k with z | z
              · exact hK q z
              · obtain rfl : q = k := by omega
                exact hnx
            exact v_loc2 (by repeat' (first | exact trivial | refine And.intro ?_ ?_ | exact rfl)) (IK (k + 1) ⟨hkn, hK9⟩ (by omega))
          · skip
            have hz9 := wr_nv (n := n) (show j < s by omega) (fun i a1 a2 => (hI i a1 a2).1) (fun z : ns_ A C nC sN S (2 ^ p ||| f) x0 j => z k hkn (b2c_0.mp b42) (b2c_n0.mp b59))
            refine v_iconst (v := 0) dX2_isReady_62 (by decide) ?_
            first | exact v_reti dX2_isReady_63 rfl (Pu_i (b2c_t hz9).symm) | exact v_reti dX2_isReady_63 rfl (Pu_i (b2c_f hz9).symm)

theorem hs_01 {w p : Nat} (hw : w < 2 ^ 31) (hp : p < 31) : (nI w >>> (nI p &&& 31)) &&& 1 = 0 ∨ (nI w >>> (nI p &&& 31)) &&& 1 = 1 := by
  rw [pk_shrN hw _ p (sh_d p hp), show (1 : Int32) = nI 1 from rfl, show (0 : Int32) = nI 0 from rfl, nI_and, Nat.and_one_is_mod]
  rcases Nat.mod_two_eq_zero_or_one (w / 2 ^ p) with z | z
  · rw [z]; exact Or.inl rfl
  · rw [z]; exact Or.inr rfl
theorem c_X2_isHidden {G : Gv} {h : AH} {b nC sN : Nat} {A : Nat → Int32} {C : Nat → Nat → Int32} {S : Int32} (hq : XQ_ h b A C nC sN S) {p f x0 g s e sw c : Nat} (hr : RN_ h p f x0 g s e sw c) {sd t : Nat} (hp : p < sN) (hf : f < 512) (hsw : sw < 4) (hsd : sd < 2) (ht : t < 100) : Ctr G 9 yX2_isHidden cX2_isHidden 5 (some .boolean) [.ref 94, .int (nI sd), .int (nI t)] h 0 0 (Pu h (.int (b2c (gu_ A C nC sN S (nI c) (2 ^ p ||| f) sw p x0 g (2 * p + sd) t)))) := by
  refine ctr_of (own := RX2) (nm := "isHidden") (by decide) (Nat.le_of_ble_eq_true rfl) ?_
  have hq9 := hq
  obtain ⟨hX, hS, ⟨DC, cC, fC, hCA, hCE⟩, hv, hc⟩ := hq9
  have h39 := sv_s hv
  have h8 := hc.1
  have hr9 := hr
  obtain ⟨r0, r1, r3, r4, r5, r6, r7, r8⟩ := hr
  have hm2 : (2 * p + sd) % 2 = sd := by omega
  have hbt : (nI sw >>> (nI sd &&& 31)) &&& 1 = 1 ↔ sw.testBit ((2 * p + sd) % 2) = true := by rw [hm2]; exact has_bit (by omega) (by omega)
  have hb01 : (nI sw >>> (nI sd &&& 31)) &&& 1 = 0 ∨ (nI sw >>> (nI sd &&& 31)) &&& 1 = 1 := hs_01 (by omega) (by omega)
  refine v_iconst (v := 0) dX2_isHidden_0 (by decide) ?_
  refine v_istore_n dX2_isHidden_1 rfl (by decide) ?_
  refine v_loc2 (by repeat' (first | exact trivial | refine And.intro ?_ ?_ | exact rfl)) (v_lp1 (fun (k : Nat) => sN - k) (fun (k : Nat) => k ≤ sN ∧ ∀ q, q < k → ¬ (2 ^ p ||| f).testBit q = true → (sw.testBit ((2 * p + sd) % 2) = true ∨ ¬ hds_ A q (2 * p + sd) t) ∧ ¬ ss_ A C nC sN S (nI c) q p t ∧ ¬ ss_ A C nC sN S (nI c) q x0 t ∧ ¬ ss_ A C nC sN S (nI c) q g t) (fun (k : Nat) => [(0, .ref 94), (1, .int (nI sd)), (2, .int (nI t)), (3, .int (nI k))]) (fun _ => []) (fun (k : Nat) => h) ?_ 0 ⟨Nat.zero_le _, fun q hq => absurd hq (Nat.not_lt_zero _)⟩)
  intro k ⟨hk, hI⟩ IH
  refine v_iload_n dX2_isHidden_2 rfl rfl ?_
  refine v_aload_n dX2_isHidden_3 rfl rfl ?_
  refine v_getR fX2_3 dX2_isHidden_4 (xc_run hX.2.2.2.2) (xc_run0 hX.2.2.2.2) ?_
  refine v_getI fX2_39 dX2_isHidden_7 hX.1 ?_
  rw [hX.2.1]
  refine v_icmp_ge (tgt := 108) dX2_isHidden_10 (by decide) (fun b10 => ?_) (fun b10 => ?_)
  · skip
    have hkn : sN ≤ k := (nI_leI (by omega) (by omega)).mp b10
    have hz9 : gu_ A C nC sN S (nI c) (2 ^ p ||| f) sw p x0 g (2 * p + sd) t := fun q h1 => hI q (by omega)
    refine v_iconst (v := 1) dX2_isHidden_108 (by decide) ?_
    first | exact v_reti dX2_isHidden_109 rfl (Pu_i (b2c_t hz9).symm) | exact v_reti dX2_isHidden_109 rfl (Pu_i (b2c_f hz9).symm)
  · skip
    have hkn : k < sN := Nat.lt_of_not_le (fun z => b10 ((nI_leI (by omega) (by omega)).mpr z))
    refine v_aload_n dX2_isHidden_13 rfl rfl ?_
    refine v_iload_n dX2_isHidden_14 rfl rfl ?_
    refine v_pV mtX2_isFriend q837 q838 q839 rfl (by decide) dX2_isHidden_15 (c_X2_isFriend hq hr9 ?_ ?_ ?_) (xc_run hX.2.2.2.2) (by first | decide | omega) ?_
    · omega
    · omega
    · omega
    refine v_if_eq (tgt := 24) dX2_isHidden_18 (by decide) (fun b18 => ?_) (fun b18 => ?_)
    · skip
      have hfr := b2c_0.mp b18
      refine v_join 54 (fun z => z = b2c (¬ sw.testBit ((2 * p + sd) % 2) = true ∧ hds_ A k (2 * p + sd) t)) (fun z hz => ?_) (fun hj54 => ?_)
      · skip
        subst hz
        refine v_istore dX2_isHidden_54 (by decide) ?_
        refine v_iload dX2_isHidden_56 rfl ?_
        refine v_if_ne (tgt := 100) dX2_isHidden_58 (by decide) (fun b58 => ?_) (fun b58 => ?_)
        · skip
          have hz9 : ¬ gu_ A C nC sN S (nI c) (2 ^ p ||| f) sw p x0 g (2 * p + sd) t := fun z => by
            have y := z k hkn hfr
            exact y.1.elim (b2c_n0.mp b58).1 (fun x => x (b2c_n0.mp b58).2)
          refine v_iconst (v := 0) dX2_isHidden_100 (by decide) ?_
          first | exact v_reti dX2_isHidden_101 rfl (Pu_i (b2c_t hz9).symm) | exact v_reti dX2_isHidden_101 rfl (Pu_i (b2c_f hz9).symm)
        · skip
          have h58 := b2c_0.mp b58
          refine v_aload_n dX2_isHidden_61 rfl rfl ?_
          refine v_iload_n dX2_isHidden_62 rfl rfl ?_
          refine v_aload_n dX2_isHidden_63 rfl rfl ?_
          refine v_getI fX2_15 dX2_isHidden_64 (xc_run hX.2.2.2.2) ?_
          rw [r0]
          refine v_iload_n dX2_isHidden_67 rfl rfl ?_
          refine v_pV mtX2_isSeen q876 q877 q878 rfl (by decide) dX2_isHidden_68 (c_X2_isSeen hq hr9 ?_ ?_) (xc_run hX.2.2.2.2) (by first | decide | omega) ?_
          · omega
          · omega
          refine v_if_ne (tgt := 100) dX2_isHidden_71 (by decide) (fun b71 => ?_) (fun b71 => ?_)
          · skip
            have hz9 : ¬ gu_ A C nC sN S (nI c) (2 ^ p ||| f) sw p x0 g (2 * p + sd) t := fun z => by
              have y := z k hkn hfr
              exact y.2.1 (b2c_n0.mp b71)
            refine v_iconst (v := 0) dX2_isHidden_100 (by decide) ?_
            first | exact v_reti dX2_isHidden_101 rfl (Pu_i (b2c_t hz9).symm) | exact v_reti dX2_isHidden_101 rfl (Pu_i (b2c_f hz9).symm)
          · skip
            refine v_aload_n dX2_isHidden_74 rfl rfl ?_
            refine v_iload_n dX2_isHidden_75 rfl rfl ?_
            refine v_aload_n dX2_isHidden_76 rfl rfl ?_
            refine v_getI fX2_83 dX2_isHidden_77 (xc_run hX.2.2.2.2) ?_
            rw [r3]
            refine v_iload_n dX2_isHidden_80 rfl rfl ?_
            refine v_pV mtX2_isSeen q876 q877 q878 rfl (by decide) dX2_isHidden_81 (c_X2_isSeen hq hr9 ?_ ?_) (xc_run hX.2.2.2.2) (by first | decide | omega) ?_
            · omega
            · omega
            refine v_if_ne (tgt := 100) dX2_isHidden_84 (by decide) (fun b84 => ?_) (fun b84 => ?_)
            · skip
              have hz9 : ¬ gu_ A C nC sN S (nI c) (2 ^ p ||| f) sw p x0 g (2 * p + sd) t := fun z => by
                have y := z k hkn hfr
                exact y.2.2.1 (b2c_n0.mp b84)
              refine v_iconst (v := 0) dX2_isHidden_100 (by decide) ?_
              first | exact v_reti dX2_isHidden_101 rfl (Pu_i (b2c_t hz9).symm) | exact v_reti dX2_isHidden_101 rfl (Pu_i (b2c_f hz9).symm)
            · skip
              refine v_aload_n dX2_isHidden_87 rfl rfl ?_
              refine v_iload_n dX2_isHidden_88 rfl rfl ?_
              refine v_aload_n dX2_isHidden_89 rfl rfl ?_
              refine v_getI fX2_92 dX2_isHidden_90 (xc_run hX.2.2.2.2) ?_
              rw [r4]
              refine v_iload_n dX2_isHidden_93 rfl rfl ?_
              refine v_pV mtX2_isSeen q876 q877 q878 rfl (by decide) dX2_isHidden_94 (c_X2_isSeen hq hr9 ?_ ?_) (xc_run hX.2.2.2.2) (by first | decide | omega) ?_
              · omega
              · omega
              refine v_if_eq (tgt := 102) dX2_isHidden_97 (by decide) (fun b97 => ?_) (fun b97 => ?_)
              · skip
                have hnx : ¬ (2 ^ p ||| f).testBit k = true → (sw.testBit ((2 * p + sd) % 2) = true ∨ ¬ hds_ A k (2 * p + sd) t) ∧ ¬ ss_ A C nC sN S (nI c) k p t ∧ ¬ ss_ A C nC sN S (nI c) k x0 t ∧ ¬ ss_ A C nC sN S (nI c) k g t := fun _ => ⟨Classical.byCases (fun z => Or.inl z) (fun z => Or.inr (fun y => h58 ⟨z, y⟩)), b2c_0.mp b71, b2c_0.mp b84, b2c_0.mp b97⟩
                refine v_iinc dX2_isHidden_102 rfl (by first | with_reducible exact nI_inc _ | exact rfl) (by decide) ?_
                refine v_goto (tgt := 2) dX2_isHidden_105 (by decide) ?_
                have hI9 : ∀ q, q < k + 1 → ¬ (2 ^ p ||| f).testBit q = true → (sw.testBit ((2 * p + sd) % 2) = true ∨ ¬ hds_ A q (2 * p + sd) t) ∧ ¬ ss_ A C nC sN S (nI c) q p t ∧ ¬ ss_ A C nC sN S (nI c) q x0 t ∧ ¬ ss_ A C nC sN S (nI c) q g t := fun q hq => by
                  rcases Nat.lt_or_ge q k with z | z
                  · exact hI q z
                  · obtain rfl : q = k := by omega
                    exact hnx
                exact v_loc2 (by repeat' (first | exact trivial | refine And.intro ?_ ?_ | exact rfl)) (IH (k + 1) ⟨hkn, hI9⟩ (by omega))
              · skip
                have hz9 : ¬ gu_ A C nC sN S (nI c) (2 ^ p ||| f) sw p x0 g (2 * p + sd) t := fun z => by
                  have y := z k hkn hfr
                  exact y.2.2.2 (b2c_n0.mp b97)
                refine v_iconst (v := 0) dX2_isHidden_100 (by decide) ?_
                first | exact v_reti dX2_isHidden_101 rfl (Pu_i (b2c_t hz9).symm) | exact v_reti dX2_isHidden_101 rfl (Pu_i (b2c_f hz9).symm)
      · skip
        refine v_aload_n dX2_isHidden_24 rfl rfl ?_
        refine v_getI fX2_63 dX2_isHidden_25 (xc_run hX.2.2.2.2) ?_
        rw [r7]
        refine v_iload_n dX2_isHidden_28 rfl rfl ?_
        refine v_ishr dX2_isHidden_29 ?_
        refine v_iconst (v := 1) dX2_isHidden_30 (by decide) ?_
        refine v_iand dX2_isHidden_31 ?_
        refine v_if_ne (tgt := 53) dX2_isHidden_32 (by decide) (fun b32 => ?_) (fun b32 => ?_)
        · skip
          have hjz := (b2c_f (P := ¬ sw.testBit ((2 * p + sd) % 2) = true ∧ hds_ A k (2 * p + sd) t) (fun z => z.1 (hbt.mp (hb01.resolve_left b32)))).symm
          refine v_iconst (v := 0) dX2_isHidden_53 (by decide) ?_
          exact hj54 _ hjz
        · skip
          have hb0 : ¬ sw.testBit ((2 * p + sd) % 2) = true := fun z => absurd ((hbt.mpr z).symm.trans b32) (by decide)
          refine v_aload_n dX2_isHidden_35 rfl rfl ?_
          refine v_iload_n dX2_isHidden_36 rfl rfl ?_
          refine v_aload_n dX2_isHidden_37 rfl rfl ?_
          refine v_iload_n dX2_isHidden_38 rfl rfl ?_
          refine v_pV mtX2_hand q868 q869 q870 rfl (by decide) dX2_isHidden_39 (c_X2_hand hq hr9) (xc_run hX.2.2.2.2) (by first | decide | omega) ?_
          refine v_iload_n dX2_isHidden_42 rfl rfl ?_
          refine v_pV mtX2_feels q872 q874 qs26 rfl (by decide) dX2_isHidden_43 (c_X2_feels hq ?_ ?_) (xc_run hX.2.2.2.2) (by first | decide | omega) ?_
          · omega
          · omega
          refine v_if_eq (tgt := 53) dX2_isHidden_46 (by decide) (fun b46 => ?_) (fun b46 => ?_)
          · skip
            have hjz := (b2c_f (P := ¬ sw.testBit ((2 * p + sd) % 2) = true ∧ hds_ A k (2 * p + sd) t) (fun z => b2c_0.mp b46 z.2)).symm
            refine v_iconst (v := 0) dX2_isHidden_53 (by decide) ?_
            exact hj54 _ hjz
          · skip
            have hjz := (b2c_t (P := ¬ sw.testBit ((2 * p + sd) % 2) = true ∧ hds_ A k (2 * p + sd) t) ⟨hb0, b2c_n0.mp b46⟩).symm
            refine v_iconst (v := 1) dX2_isHidden_49 (by decide) ?_
            refine v_goto (tgt := 54) dX2_isHidden_50 (by decide) ?_
            exact hj54 _ hjz
    · skip
      have hnx : ¬ (2 ^ p ||| f).testBit k = true → (sw.testBit ((2 * p + sd) % 2) = true ∨ ¬ hds_ A k (2 * p + sd) t) ∧ ¬ ss_ A C nC sN S (nI c) k p t ∧ ¬ ss_ A C nC sN S (nI c) k x0 t ∧ ¬ ss_ A C nC sN S (nI c) k g t := fun y => absurd (b2c_n0.mp b18) y
      refine v_goto (tgt := 102) dX2_isHidden_21 (by decide) ?_
      refine v_iinc dX2_isHidden_102 rfl (by first | with_reducible exact nI_inc _ | exact rfl) (by decide) ?_
      refine v_goto (tgt := 2) dX2_isHidden_105 (by decide) ?_
      have hI9 : ∀ q, q < k + 1 → ¬ (2 ^ p ||| f).testBit q = true → (sw.testBit ((2 * p + sd) % 2) = true ∨ ¬ hds_ A q (2 * p + sd) t) ∧ ¬ ss_ A C nC sN S (nI c) q p t ∧ ¬ ss_ A C nC sN S (nI c) q x0 t ∧ ¬ ss_ A C nC sN S (nI c) q g t := fun q hq => by
        rcases Nat.lt_or_ge q k with z | z
        · exact hI q z
        · obtain rfl : q = k := by omega
          exact hnx
      exact v_loc2 (by repeat' (first | exact trivial | refine And.intro ?_ ?_ | exact rfl)) (IH (k + 1) ⟨hkn, hI9⟩ (by omega))

