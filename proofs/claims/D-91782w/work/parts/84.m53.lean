set_option maxRecDepth 100000
/-- a step in the heap -/
def ST_ (h : AH) (q kd sd mn : Nat) : Prop := (sd < 2 ∧ mn < 21) ∧ ((kd = 0 ∧ hp_K h q = (10, 0) ∧ hp_I h q 0 = nI sd) ∨ (kd = 1 ∧ hp_K h q = (16, 0) ∧ hp_I h q 0 = nI mn ∧ hp_I h q 1 = nI sd) ∨ (kd = 2 ∧ hp_K h q = (12, 0) ∧ hp_I h q 0 = nI mn) ∨ (kd = 3 ∧ hp_K h q = (13, 0) ∧ hp_I h q 0 = nI mn) ∨ (kd = 4 ∧ hp_K h q = (15, 0)) ∨ (kd = 5 ∧ hp_K h q = (11, 0) ∧ hp_I h q 0 = nI sd) ∨ (kd = 6 ∧ hp_K h q = (14, 0) ∧ hp_I h q 0 = nI mn) ∨ (kd = 7 ∧ hp_K h q = (17, 0) ∧ hp_I h q 0 = nI sd ∧ hp_I h q 1 = nI mn))
/-- only the run's swapped sides and pull differ -/
def R94 (h h1 : AH) : Prop := hp_n h1 = hp_n h ∧ hp_K h1 = hp_K h ∧ hp_R h1 = hp_R h ∧ hp_L h1 = hp_L h ∧ ∀ q k, ¬ (q = 94 ∧ (k = 7 ∨ k = 8)) → hp_I h1 q k = hp_I h q k
theorem upI_e {h : AH} {p k : Nat} {v : Int32} : hp_I (up_I h p k v) p k = v := if_pos ⟨rfl, rfl⟩
theorem upI_n {h : AH} {p k j : Nat} {v : Int32} (hj : ¬ j = k) : hp_I (up_I h p k v) p j = hp_I h p j := if_neg (fun z => hj z.2)
theorem R94_rf {h : AH} : R94 h h := ⟨rfl, rfl, rfl, rfl, fun _ _ _ => rfl⟩
theorem R94_7 {h : AH} {v : Int32} : R94 h (up_I h 94 7 v) := ⟨rfl, rfl, rfl, rfl, fun q k hn => if_neg (fun z => hn ⟨z.1, Or.inl z.2⟩)⟩
theorem R94_8 {h : AH} {v : Int32} : R94 h (up_I h 94 8 v) := ⟨rfl, rfl, rfl, rfl, fun q k hn => if_neg (fun z => hn ⟨z.1, Or.inr z.2⟩)⟩
/-- whether a step goes from second t on -/
def go_ (A : Nat → Int32) (C : Nat → Nat → Int32) (nC sN : Nat) (S : Int32) (m p x0 g s e sw c kd sd mn t : Nat) : Prop :=
  (kd = 1 ∧ ∀ i, t ≤ i → i < t + mn → gu_ A C nC sN S (nI c) m sw p x0 g (2 * p + sd) i) ∨ kd = 2 ∨ ((¬ kd = 1 ∧ ¬ kd = 2) ∧ cn_ A C nC sN S (nI c) m sw p x0 kd sd mn t s e)
def GO_ (P : Prop) (h : AH) (sw' c' : Nat) : Option Value → AH → Prop := fun r h1 => R94 h h1 ∧ r = some (.int (b2c P)) ∧ (P → hp_I h1 94 7 = nI sw' ∧ hp_I h1 94 8 = nI c')
theorem sw_or : ∀ a, a < 4 → ∀ b, b < 2 → nI a ||| ((1 : Int32) <<< (nI b &&& 31)) = nI (a ||| 2 ^ b) := by decide +kernel
theorem c_X10_goes {G : Gv} {h : AH} {b nC sN : Nat} {A : Nat → Int32} {C : Nat → Nat → Int32} {S : Int32} (hq : XQ_ h b A C nC sN S) {p f x0 g s e sw c : Nat} (hr : RN_ h p f x0 g s e sw c) {q sd mn t : Nat} (hp : p < sN) (hf : f < 512) (hsw : sw < 4) (hsd : sd < 2) (ht : t < 100) (he : e < 100) (hK : hp_K h q = (10, 0)) (h0 : hp_I h q 0 = nI sd) : Ctr G 12 yX10_goes cX10_goes 5 (some .boolean) [.ref q, .ref 30, .ref 94, .int (nI t)] h 0 0 (Pu h (.int (b2c (∀ i, t ≤ i → (i ≤ e ∨ i = t) → fn_ A C nC sN S sw (2 * p + sd) i)))) := by
  refine ctr_of (own := RX10) (nm := "goes") (by decide) (Nat.le_of_ble_eq_true rfl) ?_
  have hq9 := hq
  obtain ⟨hX, hS, ⟨DC, cC, fC, hCA, hCE⟩, hv, hc⟩ := hq9
  have h39 := sv_s hv
  have h8 := hc.1
  have hr9 := hr
  obtain ⟨r0, r1, r3, r4, r5, r6, r7, r8⟩ := hr
  refine v_iload_n dX10_goes_0 rfl rfl ?_
  refine v_istore dX10_goes_1 (by decide) ?_
  refine v_loc2 (by repeat' (first | exact trivial | refine And.intro ?_ ?_ | exact rfl)) (v_lp1 (fun (i : Nat) => 200 - i) (fun (i : Nat) => t ≤ i ∧ i ≤ 100 ∧ ∀ j, t ≤ j → j < i → fn_ A C nC sN S sw (2 * p + sd) j) (fun (i : Nat) => [(0, .ref q), (1, .ref 30), (2, .ref 94), (3, .int (nI t)), (4, .int (nI i))]) (fun _ => []) (fun (i : Nat) => h) ?_ t ⟨Nat.le_refl _, by omega, fun j h1 h2 => absurd h2 (Nat.not_lt.mpr h1)⟩)
  intro i ⟨hi, hi9, hI⟩ IH
  refine v_iload dX10_goes_3 rfl ?_
  refine v_iload_n dX10_goes_5 rfl rfl ?_
  refine v_aload_n dX10_goes_6 rfl rfl ?_
  refine v_getI fX10_13 dX10_goes_7 (xc_run hX.2.2.2.2) ?_
  rw [r6]
  refine v_mmax q884 (by first | decide | omega) dX10_goes_10 ?_
  rw [mx_nI (by omega) (by omega)]
  refine v_icmp_gt (tgt := 37) dX10_goes_13 (by decide) (fun b13 => ?_) (fun b13 => ?_)
  · skip
    have hz9 : ∀ i, t ≤ i → (i ≤ e ∨ i = t) → fn_ A C nC sN S sw (2 * p + sd) i := fun i a1 a2 => hI i a1 (by have := (nI_ltI (by omega) (by omega)).mp b13; omega)
    refine v_iconst (v := 1) dX10_goes_37 (by decide) ?_
    first | exact v_reti dX10_goes_38 rfl (Pu_i (b2c_t hz9).symm) | exact v_reti dX10_goes_38 rfl (Pu_i (b2c_f hz9).symm)
  · skip
    have hie : i ≤ max t e := Nat.le_of_not_lt (fun z => b13 ((nI_ltI (by omega) (by omega)).mpr z))
    refine v_aload_n dX10_goes_16 rfl rfl ?_
    refine v_aload_n dX10_goes_17 rfl rfl ?_
    refine v_getI fX10_7 dX10_goes_18 hK ?_
    rw [h0]
    refine v_iload dX10_goes_21 rfl ?_
    refine v_pV mtX2_isFreeNow q885 q886 q887 rfl (by decide) dX10_goes_23 (c_X2_isFreeNow hq hr9 ?_ ?_ ?_ ?_) (xc_run hX.2.2.2.2) (by first | decide | omega) ?_
    · omega
    · omega
    · omega
    · omega
    refine v_if_ne (tgt := 31) dX10_goes_26 (by decide) (fun b26 => ?_) (fun b26 => ?_)
    · skip
      have hnx := b2c_n0.mp b26
      refine v_iinc dX10_goes_31 rfl (by first | with_reducible exact nI_inc _ | exact rfl) (by decide) ?_
      refine v_goto (tgt := 3) dX10_goes_34 (by decide) ?_
      have hI9 : ∀ j, t ≤ j → j < i + 1 → fn_ A C nC sN S sw (2 * p + sd) j := fun j a1 a2 => by
        rcases Nat.lt_or_ge j i with z | z
        · exact hI j a1 z
        · obtain rfl : j = i := by omega
          exact hnx
      exact v_loc2 (by repeat' (first | exact trivial | refine And.intro ?_ ?_ | exact rfl)) (IH (i + 1) ⟨by omega, by omega, hI9⟩ (by omega))
    · skip
      have hz9 : ¬ ∀ i, t ≤ i → (i ≤ e ∨ i = t) → fn_ A C nC sN S sw (2 * p + sd) i := fun z => b2c_0.mp b26 (z i hi (by omega))
      refine v_iconst (v := 0) dX10_goes_29 (by decide) ?_
      first | exact v_reti dX10_goes_30 rfl (Pu_i (b2c_t hz9).symm) | exact v_reti dX10_goes_30 rfl (Pu_i (b2c_f hz9).symm)

theorem c_X11_goes {G : Gv} {h : AH} {b nC sN : Nat} {A : Nat → Int32} {C : Nat → Nat → Int32} {S : Int32} (hq : XQ_ h b A C nC sN S) {p f x0 g s e sw c : Nat} (hr : RN_ h p f x0 g s e sw c) {q sd mn t : Nat} (hp : p < sN) (hf : f < 512) (hsw : sw < 4) (hsd : sd < 2) (ht : t < 100) (hK : hp_K h q = (11, 0)) (h0 : hp_I h q 0 = nI sd) : Ctr G 12 yX11_goes cX11_goes 4 (some .boolean) [.ref q, .ref 30, .ref 94, .int (nI t)] h 0 0 (fun r h1 => (((∃ q, q < sN ∧ hds_ A q (2 * p + (1 - sd)) t) ∧ ∀ q, q < sN → ¬ (2 ^ p ||| f).testBit q = true → ¬ ss_ A C nC sN S (nI c) q p t) ∧ r = some (.int 1) ∧ h1 = up_I h 94 7 (nI (sw ||| 2 ^ sd))) ∨ (¬ ((∃ q, q < sN ∧ hds_ A q (2 * p + (1 - sd)) t) ∧ ∀ q, q < sN → ¬ (2 ^ p ||| f).testBit q = true → ¬ ss_ A C nC sN S (nI c) q p t) ∧ r = some (.int 0) ∧ h1 = h)) := by
  refine ctr_of (own := RX11) (nm := "goes") (by decide) (Nat.le_of_ble_eq_true rfl) ?_
  have hq9 := hq
  obtain ⟨hX, hS, ⟨DC, cC, fC, hCA, hCE⟩, hv, hc⟩ := hq9
  have h39 := sv_s hv
  have h8 := hc.1
  have hr9 := hr
  obtain ⟨r0, r1, r3, r4, r5, r6, r7, r8⟩ := hr
  refine v_aload_n dX11_goes_0 rfl rfl ?_
  refine v_iconst (v := 1) dX11_goes_1 (by decide) ?_
  refine v_aload_n dX11_goes_2 rfl rfl ?_
  refine v_getI fX11_7 dX11_goes_3 hK ?_
  rw [h0]
  refine v_isub dX11_goes_6 ?_
  rw [show (1 : Int32) - nI sd = nI (1 - sd) from pk_sub (a := 1) (by omega)]
  refine v_iload_n dX11_goes_7 rfl rfl ?_
  refine v_pV mtX2_isHeld q902 q903 q904 rfl (by decide) dX11_goes_8 (c_X2_isHeld hq hr9 ?_ ?_ ?_) (xc_run hX.2.2.2.2) (by first | decide | omega) ?_
  · omega
  · omega
  · omega
  refine v_if_eq (tgt := 26) dX11_goes_11 (by decide) (fun b11 => ?_) (fun b11 => ?_)
  · skip
    have hz := b2c_0.mp b11
    refine v_iconst (v := 0) dX11_goes_26 (by decide) ?_
    first | exact v_reti dX11_goes_27 rfl (Or.inr ⟨fun z => hz z.1, rfl, rfl⟩) | exact v_reti dX11_goes_27 rfl (Or.inr ⟨fun z => hz2 z.2, rfl, rfl⟩)
  · skip
    refine v_aload_n dX11_goes_14 rfl rfl ?_
    refine v_aload_n dX11_goes_15 rfl rfl ?_
    refine v_getI fX11_19 dX11_goes_16 (xc_run hX.2.2.2.2) ?_
    rw [r0]
    refine v_iload_n dX11_goes_19 rfl rfl ?_
    refine v_pV mtX2_isUnseen q906 q907 q908 rfl (by decide) dX11_goes_20 (c_X2_isUnseen hq hr9 ?_ ?_ ?_) (xc_run hX.2.2.2.2) (by first | decide | omega) ?_
    · omega
    · omega
    · omega
    refine v_if_ne (tgt := 28) dX11_goes_23 (by decide) (fun b23 => ?_) (fun b23 => ?_)
    · skip
      refine v_aload_n dX11_goes_28 rfl rfl ?_
      refine v_dup dX11_goes_29 rfl ?_
      refine v_getI fX11_25 dX11_goes_30 (xc_run hX.2.2.2.2) ?_
      rw [r7]
      refine v_iconst (v := 1) dX11_goes_33 (by decide) ?_
      refine v_aload_n dX11_goes_34 rfl rfl ?_
      refine v_getI fX11_7 dX11_goes_35 hK ?_
      rw [h0]
      refine v_ishl dX11_goes_38 ?_
      refine v_ior dX11_goes_39 ?_
      rw [sw_or sw hsw sd hsd]
      refine v_putI fX11_25 (.inl rfl) dX11_goes_40 (xc_run hX.2.2.2.2) ?_
      refine v_iconst (v := 1) dX11_goes_43 (by decide) ?_
      exact v_reti dX11_goes_44 rfl (Or.inl ⟨⟨b2c_n0.mp b11, b2c_n0.mp b23⟩, rfl, rfl⟩)
    · skip
      have hz2 := b2c_0.mp b23
      refine v_iconst (v := 0) dX11_goes_26 (by decide) ?_
      first | exact v_reti dX11_goes_27 rfl (Or.inr ⟨fun z => hz z.1, rfl, rfl⟩) | exact v_reti dX11_goes_27 rfl (Or.inr ⟨fun z => hz2 z.2, rfl, rfl⟩)

theorem c_X12_goes {G : Gv} {h : AH} {q : Nat} {t : Int32} : Ctr G 12 yX12_goes cX12_goes 4 (some .boolean) [.ref q, .ref 30, .ref 94, .int t] h 0 0 (Pu h (.int 1)) := by
  refine ctr_of (own := RX12) (nm := "goes") (by decide) (Nat.le_of_ble_eq_true rfl) ?_
  refine v_iconst (v := 1) dX12_goes_0 (by decide) ?_
  exact v_reti dX12_goes_1 rfl (Pu_i rfl)

theorem c_X13_goes {G : Gv} {h : AH} {b nC sN : Nat} {A : Nat → Int32} {C : Nat → Nat → Int32} {S : Int32} (hq : XQ_ h b A C nC sN S) {p f x0 g s e sw c : Nat} (hr : RN_ h p f x0 g s e sw c) {q sd mn t : Nat} (ht : t < 100) (hK : hp_K h q = (13, 0)) (h0 : hp_I h q 0 = nI mn) : Ctr G 12 yX13_goes cX13_goes 4 (some .boolean) [.ref q, .ref 30, .ref 94, .int (nI t)] h 0 0 (Pu h (.int (b2c (li_ A C S t nC ≤ nI mn)))) := by
  refine ctr_of (own := RX13) (nm := "goes") (by decide) (Nat.le_of_ble_eq_true rfl) ?_
  have hq9 := hq
  obtain ⟨hX, hS, ⟨DC, cC, fC, hCA, hCE⟩, hv, hc⟩ := hq9
  have h39 := sv_s hv
  have h8 := hc.1
  have hr9 := hr
  obtain ⟨r0, r1, r3, r4, r5, r6, r7, r8⟩ := hr
  refine v_aload_n dX13_goes_0 rfl rfl ?_
  refine v_iload_n dX13_goes_1 rfl rfl ?_
  refine v_pVN mtX0_lightAt (nw_m q854 rfl) q716 qs14 rfl (by decide) dX13_goes_2 (c_X0_lightAt hq ?_) hX.1 (by first | decide | omega) ?_
  · first | assumption | omega
  refine v_aload_n dX13_goes_5 rfl rfl ?_
  refine v_getI fX13_7 dX13_goes_6 hK ?_
  rw [h0]
  refine v_icmp_gt (tgt := 16) dX13_goes_9 (by decide) (fun b9 => ?_) (fun b9 => ?_)
  · skip
    refine v_iconst (v := 0) dX13_goes_16 (by decide) ?_
    first | exact v_reti dX13_goes_17 rfl (Pu_i (b2c_t (Int32.not_lt.mp b9)).symm) | exact v_reti dX13_goes_17 rfl (Pu_i (b2c_f (Int32.not_le.mpr b9)).symm)
  · skip
    refine v_iconst (v := 1) dX13_goes_12 (by decide) ?_
    refine v_goto (tgt := 17) dX13_goes_13 (by decide) ?_
    first | exact v_reti dX13_goes_17 rfl (Pu_i (b2c_t (Int32.not_lt.mp b9)).symm) | exact v_reti dX13_goes_17 rfl (Pu_i (b2c_f (Int32.not_le.mpr b9)).symm)

theorem c_X14_goes {G : Gv} {h : AH} {b nC sN : Nat} {A : Nat → Int32} {C : Nat → Nat → Int32} {S : Int32} (hq : XQ_ h b A C nC sN S) {p f x0 g s e sw c : Nat} (hr : RN_ h p f x0 g s e sw c) {q sd mn t : Nat} (hc20 : c < 100) (hmn : mn < 100) (hK : hp_K h q = (14, 0)) (h0 : hp_I h q 0 = nI mn) : Ctr G 12 yX14_goes cX14_goes 4 (some .boolean) [.ref q, .ref 30, .ref 94, .int (nI t)] h 0 0 (fun r h1 => r = some (.int 1) ∧ h1 = up_I h 94 8 (nI (max c mn))) := by
  refine ctr_of (own := RX14) (nm := "goes") (by decide) (Nat.le_of_ble_eq_true rfl) ?_
  have hq9 := hq
  obtain ⟨hX, hS, ⟨DC, cC, fC, hCA, hCE⟩, hv, hc⟩ := hq9
  have h39 := sv_s hv
  have h8 := hc.1
  have hr9 := hr
  obtain ⟨r0, r1, r3, r4, r5, r6, r7, r8⟩ := hr
  refine v_aload_n dX14_goes_0 rfl rfl ?_
  refine v_aload_n dX14_goes_1 rfl rfl ?_
  refine v_getI fX14_13 dX14_goes_2 (xc_run hX.2.2.2.2) ?_
  rw [r8]
  refine v_aload_n dX14_goes_5 rfl rfl ?_
  refine v_getI fX14_7 dX14_goes_6 hK ?_
  rw [h0]
  refine v_mmax q850 (by first | decide | omega) dX14_goes_9 ?_
  rw [mx_nI (by omega) (by omega)]
  refine v_putI fX14_13 (.inl rfl) dX14_goes_12 (xc_run hX.2.2.2.2) ?_
  refine v_iconst (v := 1) dX14_goes_15 (by decide) ?_
  exact v_reti dX14_goes_16 rfl ⟨rfl, rfl⟩

theorem c_X15_goes {G : Gv} {h : AH} {b nC sN : Nat} {A : Nat → Int32} {C : Nat → Nat → Int32} {S : Int32} (hq : XQ_ h b A C nC sN S) {p f x0 g s e sw c : Nat} (hr : RN_ h p f x0 g s e sw c) {q sd mn t : Nat} (hp : p < sN) (hf : f < 512) (ht : t < 100) : Ctr G 12 yX15_goes cX15_goes 4 (some .boolean) [.ref q, .ref 30, .ref 94, .int (nI t)] h 0 0 (Pu h (.int (b2c (∀ q, q < sN → ¬ (2 ^ p ||| f).testBit q = true → ¬ ey_ A C nC sN S (nI c) q t = nI p)))) := by
  refine ctr_of (own := RX15) (nm := "goes") (by decide) (Nat.le_of_ble_eq_true rfl) ?_
  have hq9 := hq
  obtain ⟨hX, hS, ⟨DC, cC, fC, hCA, hCE⟩, hv, hc⟩ := hq9
  have h39 := sv_s hv
  have h8 := hc.1
  have hr9 := hr
  obtain ⟨r0, r1, r3, r4, r5, r6, r7, r8⟩ := hr
  refine v_aload_n dX15_goes_0 rfl rfl ?_
  refine v_iload_n dX15_goes_1 rfl rfl ?_
  refine v_pV mtX2_isAway q833 q834 q835 rfl (by decide) dX15_goes_2 (c_X2_isAway hq hr9 ?_ ?_ ?_) (xc_run hX.2.2.2.2) (by first | decide | omega) ?_
  · omega
  · omega
  · omega
  exact v_reti dX15_goes_5 (rt_z01 (b2c_01 _)) (Pu_i rfl)

theorem c_X17_goes {G : Gv} {h : AH} {b nC sN : Nat} {A : Nat → Int32} {C : Nat → Nat → Int32} {S : Int32} (hq : XQ_ h b A C nC sN S) {p f x0 g s e sw c : Nat} (hr : RN_ h p f x0 g s e sw c) {q sd mn t : Nat} (hp : p < sN) (hf : f < 512) (hsd : sd < 2) (hmn : mn < 100) (hs : s < 100) (hK : hp_K h q = (17, 0)) (h0 : hp_I h q 0 = nI sd) (h1 : hp_I h q 1 = nI mn) : Ctr G 12 yX17_goes cX17_goes 4 (some .boolean) [.ref q, .ref 30, .ref 94, .int (nI t)] h 0 0 (Pu h (.int (b2c (wr_ A C nC sN S (2 ^ p ||| f) x0 (2 * p + sd) mn s)))) := by
  refine ctr_of (own := RX17) (nm := "goes") (by decide) (Nat.le_of_ble_eq_true rfl) ?_
  have hq9 := hq
  obtain ⟨hX, hS, ⟨DC, cC, fC, hCA, hCE⟩, hv, hc⟩ := hq9
  have h39 := sv_s hv
  have h8 := hc.1
  have hr9 := hr
  obtain ⟨r0, r1, r3, r4, r5, r6, r7, r8⟩ := hr
  refine v_aload_n dX17_goes_0 rfl rfl ?_
  refine v_aload_n dX17_goes_1 rfl rfl ?_
  refine v_getI fX17_7 dX17_goes_2 hK ?_
  rw [h0]
  refine v_aload_n dX17_goes_5 rfl rfl ?_
  refine v_getI fX17_13 dX17_goes_6 hK ?_
  rw [h1]
  refine v_pV mtX2_isReady q894 q895 q896 rfl (by decide) dX17_goes_9 (c_X2_isReady hq hr9 ?_ ?_ ?_ ?_ ?_) (xc_run hX.2.2.2.2) (by first | decide | omega) ?_
  · omega
  · omega
  · omega
  · omega
  · omega
  exact v_reti dX17_goes_12 (rt_z01 (b2c_01 _)) (Pu_i rfl)

theorem c_X12_seconds_12 {G : Gv} {h : AH} {q : Nat} (hK : hp_K h q = (12, 0)) : Ctr G 0 yX12_seconds cX12_seconds 1 (some .int) [.ref q] h 0 0 (Pu h (.int (hp_I h q 0))) := by
  refine ctr_of (own := RX12) (nm := "seconds") (by decide) (Nat.le_of_ble_eq_true rfl) ?_
  refine v_aload_n dX12_seconds_0 rfl rfl ?_
  refine v_getI fX12_7 dX12_seconds_1 hK ?_
  exact v_reti dX12_seconds_4 rfl (Pu_i rfl)

theorem c_X12_seconds_16 {G : Gv} {h : AH} {q : Nat} (hK : hp_K h q = (16, 0)) : Ctr G 0 yX12_seconds cX12_seconds 1 (some .int) [.ref q] h 0 0 (Pu h (.int (hp_I h q 0))) := by
  refine ctr_of (own := RX12) (nm := "seconds") (by decide) (Nat.le_of_ble_eq_true rfl) ?_
  refine v_aload_n dX12_seconds_0 rfl rfl ?_
  refine v_getI fX12_7_X16 dX12_seconds_1 hK ?_
  exact v_reti dX12_seconds_4 rfl (Pu_i rfl)

theorem c_X9_seconds {G : Gv} {h : AH} {q : Nat} : Ctr G 0 yX9_seconds cX9_seconds 1 (some .int) [.ref q] h 0 0 (Pu h (.int 0)) := by
  refine ctr_of (own := RX9) (nm := "seconds") (by decide) (Nat.le_of_ble_eq_true rfl) ?_
  refine v_iconst (v := 0) dX9_seconds_0 (by decide) ?_
  exact v_reti dX9_seconds_1 rfl (Pu_i rfl)

theorem c_X9_asks {G : Gv} {h : AH} {q : Nat} : Ctr G 0 yX9_asks cX9_asks 1 (some .boolean) [.ref q] h 0 0 (Pu h (.int 1)) := by
  refine ctr_of (own := RX9) (nm := "asks") (by decide) (Nat.le_of_ble_eq_true rfl) ?_
  refine v_iconst (v := 1) dX9_asks_0 (by decide) ?_
  exact v_reti dX9_asks_1 rfl (Pu_i rfl)

theorem c_X14_asks {G : Gv} {h : AH} {q : Nat} : Ctr G 0 yX14_asks cX14_asks 1 (some .boolean) [.ref q] h 0 0 (Pu h (.int 0)) := by
  refine ctr_of (own := RX14) (nm := "asks") (by decide) (Nat.le_of_ble_eq_true rfl) ?_
  refine v_iconst (v := 0) dX14_asks_0 (by decide) ?_
  exact v_reti dX14_asks_1 rfl (Pu_i rfl)

theorem c_X17_asks {G : Gv} {h : AH} {q : Nat} : Ctr G 0 yX17_asks cX17_asks 1 (some .boolean) [.ref q] h 0 0 (Pu h (.int 0)) := by
  refine ctr_of (own := RX17) (nm := "asks") (by decide) (Nat.le_of_ble_eq_true rfl) ?_
  refine v_iconst (v := 0) dX17_asks_0 (by decide) ?_
  exact v_reti dX17_asks_1 rfl (Pu_i rfl)

def ySt_asks : MethodName := ⟨"RapTable$Step", "asks", "()Z"⟩
theorem dl_ySt_asks : dl_ ySt_asks "RapTable$Step" := ⟨q813, ⟨by decide, by decide⟩, .inr ⟨q812, _, _, _, q826⟩⟩
def ySt_seconds : MethodName := ⟨"RapTable$Step", "seconds", "()I"⟩
theorem dl_ySt_seconds : dl_ ySt_seconds "RapTable$Step" := ⟨q915, ⟨by decide, by decide⟩, .inr ⟨q914, _, _, _, q924⟩⟩
def ySt_goes : MethodName := ⟨"RapTable$Step", "goes", "(LRapTable;LRapTable$Run;I)Z"⟩
theorem dl_ySt_goes : dl_ ySt_goes "RapTable$Step" := ⟨q829, ⟨by decide, by decide⟩, .inl (nw_m q828 rfl)⟩
def yDo_seconds : MethodName := ⟨"RapTable$Doing", "seconds", "()I"⟩
theorem dl_yDo_seconds : dl_ yDo_seconds "RapTable$Wait" := ⟨q859, ⟨by decide, by decide⟩, .inl (nw_m q860 rfl)⟩
theorem st_KO {h : AH} {q kd sd mn : Nat} (hq : ST_ h q kd sd mn) : KO_ h q "RapTable$Step" := by
  rcases hq.2 with ⟨-, hK, -⟩ | ⟨-, hK, -⟩ | ⟨-, hK, -⟩ | ⟨-, hK, -⟩ | ⟨-, hK⟩ | ⟨-, hK, -⟩ | ⟨-, hK, -⟩ | ⟨-, hK, -⟩
  · exact ⟨10, _, _, _, hK, by decide, rfl, nw_m q2235 rfl⟩
  · exact ⟨16, _, _, _, hK, by decide, rfl, nw_m q2234 rfl⟩
  · exact ⟨12, _, _, _, hK, by decide, rfl, nw_m q2238 rfl⟩
  · exact ⟨13, _, _, _, hK, by decide, rfl, nw_m q2233 rfl⟩
  · exact ⟨15, _, _, _, hK, by decide, rfl, nw_m q2231 rfl⟩
  · exact ⟨11, _, _, _, hK, by decide, rfl, nw_m q2237 rfl⟩
  · exact ⟨14, _, _, _, hK, by decide, rfl, nw_m q2232 rfl⟩
  · exact ⟨17, _, _, _, hK, by decide, rfl, nw_m q2236 rfl⟩
theorem dp_asks {G : Gv} {h : AH} {q kd sd mn : Nat} (hq : ST_ h q kd sd mn) : DP_ G 0 h q ySt_asks (some .boolean) [] 0 0 0 (Pu h (.int (b2i (¬ kd = 6 ∧ ¬ kd = 7)))) := by
  rcases hq.2 with ⟨rfl, hK, e0⟩ | ⟨rfl, hK, e0, e1⟩ | ⟨rfl, hK, e0⟩ | ⟨rfl, hK, e0⟩ | ⟨rfl, hK⟩ | ⟨rfl, hK, e0⟩ | ⟨rfl, hK, e0⟩ | ⟨rfl, hK, e0, e1⟩
  · exact ⟨10, "RapTable$Free", _, _, yX9_asks, cX9_asks, 1, hK, by decide, rfl, mtX9_asks, rfl, q820, q812, c_X9_asks⟩
  · exact ⟨16, "RapTable$Doing", _, _, yX9_asks, cX9_asks, 1, hK, by decide, rfl, mtX9_asks, rfl, q819, q812, c_X9_asks⟩
  · exact ⟨12, "RapTable$Wait", _, _, yX9_asks, cX9_asks, 1, hK, by decide, rfl, mtX9_asks, rfl, q825, q812, c_X9_asks⟩
  · exact ⟨13, "RapTable$Dark", _, _, yX9_asks, cX9_asks, 1, hK, by decide, rfl, mtX9_asks, rfl, q818, q812, c_X9_asks⟩
  · exact ⟨15, "RapTable$Away", _, _, yX9_asks, cX9_asks, 1, hK, by decide, rfl, mtX9_asks, rfl, q814, q812, c_X9_asks⟩
  · exact ⟨11, "RapTable$Swap", _, _, yX9_asks, cX9_asks, 1, hK, by decide, rfl, mtX9_asks, rfl, q824, q812, c_X9_asks⟩
  · exact ⟨14, "RapTable$Call", _, _, yX14_asks, cX14_asks, 1, hK, by decide, rfl, mtX14_asks, rfl, q815, q816, c_X14_asks⟩
  · exact ⟨17, "RapTable$Ready", _, _, yX17_asks, cX17_asks, 1, hK, by decide, rfl, mtX17_asks, rfl, q821, q822, c_X17_asks⟩
theorem dp_seconds {G : Gv} {h : AH} {q kd sd mn : Nat} (hq : ST_ h q kd sd mn) : DP_ G 0 h q ySt_seconds (some .int) [] 0 0 0 (Pu h (.int (nI (if kd = 1 ∨ kd = 2 then mn else 0)))) := by
  rcases hq.2 with ⟨rfl, hK, e0⟩ | ⟨rfl, hK, e0, e1⟩ | ⟨rfl, hK, e0⟩ | ⟨rfl, hK, e0⟩ | ⟨rfl, hK⟩ | ⟨rfl, hK, e0⟩ | ⟨rfl, hK, e0⟩ | ⟨rfl, hK, e0, e1⟩
  · exact ⟨10, "RapTable$Free", _, _, yX9_seconds, cX9_seconds, 1, hK, by decide, rfl, mtX9_seconds, rfl, q920, q914, c_X9_seconds⟩
  · exact ⟨16, "RapTable$Doing", _, _, yX12_seconds, cX12_seconds, 1, hK, by decide, rfl, mtX12_seconds, rfl, q919, q862, (show Ctr G 0 yX12_seconds cX12_seconds 1 (some .int) [.ref q] h 0 0 (Pu h (.int (nI mn))) from e0 ▸ c_X12_seconds_16 hK)⟩
  · exact ⟨12, "RapTable$Wait", _, _, yX12_seconds, cX12_seconds, 1, hK, by decide, rfl, mtX12_seconds, rfl, q923, q862, (show Ctr G 0 yX12_seconds cX12_seconds 1 (some .int) [.ref q] h 0 0 (Pu h (.int (nI mn))) from e0 ▸ c_X12_seconds_12 hK)⟩
  · exact ⟨13, "RapTable$Dark", _, _, yX9_seconds, cX9_seconds, 1, hK, by decide, rfl, mtX9_seconds, rfl, q918, q914, c_X9_seconds⟩
  · exact ⟨15, "RapTable$Away", _, _, yX9_seconds, cX9_seconds, 1, hK, by decide, rfl, mtX9_seconds, rfl, q916, q914, c_X9_seconds⟩
  · exact ⟨11, "RapTable$Swap", _, _, yX9_seconds, cX9_seconds, 1, hK, by decide, rfl, mtX9_seconds, rfl, q922, q914, c_X9_seconds⟩
  · exact ⟨14, "RapTable$Call", _, _, yX9_seconds, cX9_seconds, 1, hK, by decide, rfl, mtX9_seconds, rfl, q917, q914, c_X9_seconds⟩
  · exact ⟨17, "RapTable$Ready", _, _, yX9_seconds, cX9_seconds, 1, hK, by decide, rfl, mtX9_seconds, rfl, q921, q914, c_X9_seconds⟩
theorem dp_secD {G : Gv} {h : AH} {q : Nat} (hK : hp_K h q = (16, 0)) : DP_ G 0 h q yDo_seconds (some .int) [] 0 0 0 (Pu h (.int (hp_I h q 0))) := ⟨16, "RapTable$Doing", _, _, yX12_seconds, cX12_seconds, 1, hK, by decide, rfl, mtX12_seconds, rfl, q861, q862, c_X12_seconds_16 hK⟩
theorem c_X16_goes {G : Gv} {h : AH} {b nC sN : Nat} {A : Nat → Int32} {C : Nat → Nat → Int32} {S : Int32} (hq : XQ_ h b A C nC sN S) {p f x0 g s e sw c : Nat} (hr : RN_ h p f x0 g s e sw c) {q sd mn t : Nat} (hp : p < sN) (hf : f < 512) (hsw : sw < 4) (hsd : sd < 2) (ht : t + mn ≤ 100) (hK : hp_K h q = (16, 0)) (h0 : hp_I h q 0 = nI mn) (h1 : hp_I h q 1 = nI sd) : Ctr G 12 yX16_goes cX16_goes 5 (some .boolean) [.ref q, .ref 30, .ref 94, .int (nI t)] h 0 0 (Pu h (.int (b2c (∀ i, t ≤ i → i < t + mn → gu_ A C nC sN S (nI c) (2 ^ p ||| f) sw p x0 g (2 * p + sd) i)))) := by
  refine ctr_of (own := RX16) (nm := "goes") (by decide) (Nat.le_of_ble_eq_true rfl) ?_
  have hq9 := hq
  obtain ⟨hX, hS, ⟨DC, cC, fC, hCA, hCE⟩, hv, hc⟩ := hq9
  have h39 := sv_s hv
  have h8 := hc.1
  have hr9 := hr
  obtain ⟨r0, r1, r3, r4, r5, r6, r7, r8⟩ := hr
  refine v_iload_n dX16_goes_0 rfl rfl ?_
  refine v_istore dX16_goes_1 (by decide) ?_
  refine v_loc2 (by repeat' (first | exact trivial | refine And.intro ?_ ?_ | exact rfl)) (v_lp1 (fun (i : Nat) => 200 - i) (fun (i : Nat) => t ≤ i ∧ i ≤ 100 ∧ ∀ j, t ≤ j → j < i → gu_ A C nC sN S (nI c) (2 ^ p ||| f) sw p x0 g (2 * p + sd) j) (fun (i : Nat) => [(0, .ref q), (1, .ref 30), (2, .ref 94), (3, .int (nI t)), (4, .int (nI i))]) (fun _ => []) (fun (i : Nat) => h) ?_ t ⟨Nat.le_refl _, by omega, fun j h1 h2 => absurd h2 (Nat.not_lt.mpr h1)⟩)
  intro i ⟨hi, hi9, hI⟩ IH
  refine v_iload dX16_goes_3 rfl ?_
  refine v_iload_n dX16_goes_5 rfl rfl ?_
  refine v_aload_n dX16_goes_6 rfl rfl ?_
  refine v_pU dl_yDo_seconds q858 dX16_goes_7 (dp_secD hK) (by decide) ?_
  rw [h0]
  refine v_iadd dX16_goes_10 ?_
  rw [nI_add]
  refine v_icmp_ge (tgt := 35) dX16_goes_11 (by decide) (fun b11 => ?_) (fun b11 => ?_)
  · skip
    have hz9 : ∀ i, t ≤ i → i < t + mn → gu_ A C nC sN S (nI c) (2 ^ p ||| f) sw p x0 g (2 * p + sd) i := fun i a1 a2 => hI i a1 (by have := (nI_leI (by omega) (by omega)).mp b11; omega)
    refine v_iconst (v := 1) dX16_goes_35 (by decide) ?_
    first | exact v_reti dX16_goes_36 rfl (Pu_i (b2c_t hz9).symm) | exact v_reti dX16_goes_36 rfl (Pu_i (b2c_f hz9).symm)
  · skip
    have hie : i < t + mn := Nat.lt_of_not_le (fun z => b11 ((nI_leI (by omega) (by omega)).mpr z))
    refine v_aload_n dX16_goes_14 rfl rfl ?_
    refine v_aload_n dX16_goes_15 rfl rfl ?_
    refine v_getI fX16_7 dX16_goes_16 hK ?_
    rw [h1]
    refine v_iload dX16_goes_19 rfl ?_
    refine v_pV mtX2_isHidden q864 q865 q866 rfl (by decide) dX16_goes_21 (c_X2_isHidden hq hr9 ?_ ?_ ?_ ?_ ?_) (xc_run hX.2.2.2.2) (by first | decide | omega) ?_
    · omega
    · omega
    · omega
    · omega
    · omega
    refine v_if_ne (tgt := 29) dX16_goes_24 (by decide) (fun b24 => ?_) (fun b24 => ?_)
    · skip
      have hnx := b2c_n0.mp b24
      refine v_iinc dX16_goes_29 rfl (by first | with_reducible exact nI_inc _ | exact rfl) (by decide) ?_
      refine v_goto (tgt := 3) dX16_goes_32 (by decide) ?_
      have hI9 : ∀ j, t ≤ j → j < i + 1 → gu_ A C nC sN S (nI c) (2 ^ p ||| f) sw p x0 g (2 * p + sd) j := fun j a1 a2 => by
        rcases Nat.lt_or_ge j i with z | z
        · exact hI j a1 z
        · obtain rfl : j = i := by omega
          exact hnx
      exact v_loc2 (by repeat' (first | exact trivial | refine And.intro ?_ ?_ | exact rfl)) (IH (i + 1) ⟨by omega, by omega, hI9⟩ (by omega))
    · skip
      have hz9 : ¬ ∀ i, t ≤ i → i < t + mn → gu_ A C nC sN S (nI c) (2 ^ p ||| f) sw p x0 g (2 * p + sd) i := fun z => b2c_0.mp b24 (z i hi hie)
      refine v_iconst (v := 0) dX16_goes_27 (by decide) ?_
      first | exact v_reti dX16_goes_28 rfl (Pu_i (b2c_t hz9).symm) | exact v_reti dX16_goes_28 rfl (Pu_i (b2c_f hz9).symm)

theorem go_3 {A : Nat → Int32} {C : Nat → Nat → Int32} {nC sN m p x0 g s e sw c kd sd mn t : Nat} {S : Int32} (h1 : ¬ kd = 1) (h2 : ¬ kd = 2) : go_ A C nC sN S m p x0 g s e sw c kd sd mn t ↔ cn_ A C nC sN S (nI c) m sw p x0 kd sd mn t s e :=
  ⟨fun z => z.elim (fun y => absurd y.1 h1) (fun y => y.elim (fun x => absurd x h2) (fun x => x.2)), fun z => Or.inr (Or.inr ⟨⟨h1, h2⟩, z⟩)⟩
theorem dp_goes {G : Gv} {h : AH} {b nC sN : Nat} {A : Nat → Int32} {C : Nat → Nat → Int32} {S : Int32} (hq : XQ_ h b A C nC sN S) {p f x0 g s e sw c : Nat} (hr : RN_ h p f x0 g s e sw c) {q kd sd mn t : Nat} (hp : p < sN) (hf : f < 512) (hq9 : ST_ h q kd sd mn) (hsw : sw < 4) (hc20 : c < 100) (ht : t < 100 ∨ kd = 6 ∨ kd = 7) (h1t : kd = 1 → t + mn ≤ 100) (he : e < 100) (hs : s < 100) : DP_ G 12 h q ySt_goes (some .boolean) [.ref 30, .ref 94, .int (nI t)] 3 0 0 (GO_ (go_ A C nC sN S (2 ^ p ||| f) p x0 g s e sw c kd sd mn t) h (cs_ sw kd sd) (cc_ c kd mn)) := by
  have hrr := hr
  obtain ⟨r0, r1, r3, r4, r5, r6, r7, r8⟩ := hrr
  obtain ⟨⟨hsd, hmn⟩, hq9⟩ := hq9
  have pu : ∀ {P P' : Prop} {kd : Nat}, ¬ kd = 5 → ¬ kd = 6 → (P ↔ P') → ∀ r h1, Pu h (.int (b2c P)) r h1 → GO_ P' h (cs_ sw kd sd) (cc_ c kd mn) r h1 := by
    rintro P P' kd n5 n6 hPP r h1 ⟨rfl, rfl⟩
    refine ⟨R94_rf, by rw [b2c_c hPP], fun _ => ?_⟩
    unfold cs_ cc_
    rw [if_neg n5, if_neg n6]
    exact ⟨r7, r8⟩
  rcases hq9 with ⟨rfl, hK, e0⟩ | ⟨rfl, hK, e0, e1⟩ | ⟨rfl, hK, e0⟩ | ⟨rfl, hK, e0⟩ | ⟨rfl, hK⟩ | ⟨rfl, hK, e0⟩ | ⟨rfl, hK, e0⟩ | ⟨rfl, hK, e0, e1⟩
  · have ht9 : t < 100 := ht.resolve_right (by decide)
    exact ⟨10, "RapTable$Free", _, _, yX10_goes, cX10_goes, 5, hK, by decide, rfl, mtX10_goes, rfl, q881, q882, ctr_w (c_X10_goes (q := q) (sd := sd) (mn := mn) (t := t) hq hr hp hf hsw hsd ht9 he hK e0) (pu (by decide) (by decide) ((cn_0 ht9).symm.trans (go_3 (A := A) (C := C) (nC := nC) (sN := sN) (S := S) (m := 2 ^ p ||| f) (p := p) (x0 := x0) (g := g) (s := s) (e := e) (sw := sw) (c := c) (sd := sd) (mn := mn) (t := t) (by decide) (by decide)).symm))⟩
  · exact ⟨16, "RapTable$Doing", _, _, yX16_goes, cX16_goes, 5, hK, by decide, rfl, mtX16_goes, rfl, q855, q856, ctr_w (c_X16_goes (q := q) (sd := sd) (mn := mn) (t := t) hq hr hp hf hsw hsd (h1t rfl) hK e0 e1) (pu (by decide) (by decide) ⟨fun z => Or.inl ⟨rfl, z⟩, fun z => z.elim (fun y => y.2) (fun y => y.elim (fun x => absurd x (by decide)) (fun x => absurd rfl x.1.1))⟩)⟩
  · exact ⟨12, "RapTable$Wait", _, _, yX12_goes, cX12_goes, 4, hK, by decide, rfl, mtX12_goes, rfl, q910, q911, ctr_w (show Ctr G 12 yX12_goes cX12_goes 4 (some .boolean) [.ref q, .ref 30, .ref 94, .int (nI t)] h 0 0 (Pu h (.int (b2c True))) from (b2c_t trivial).symm ▸ c_X12_goes) (pu (by decide) (by decide) ⟨fun _ => Or.inr (Or.inl rfl), fun _ => trivial⟩)⟩
  · have ht9 : t < 100 := ht.resolve_right (by decide)
    exact ⟨13, "RapTable$Dark", _, _, yX13_goes, cX13_goes, 4, hK, by decide, rfl, mtX13_goes, rfl, q851, q852, ctr_w (c_X13_goes (q := q) (sd := sd) (mn := mn) (t := t) hq hr ht9 hK e0) (pu (by decide) (by decide) ((cn_3 ht9).symm.trans (go_3 (A := A) (C := C) (nC := nC) (sN := sN) (S := S) (m := 2 ^ p ||| f) (p := p) (x0 := x0) (g := g) (s := s) (e := e) (sw := sw) (c := c) (sd := sd) (mn := mn) (t := t) (by decide) (by decide)).symm))⟩
  · have ht9 : t < 100 := ht.resolve_right (by decide)
    exact ⟨15, "RapTable$Away", _, _, yX15_goes, cX15_goes, 4, hK, by decide, rfl, mtX15_goes, rfl, q830, q831, ctr_w (c_X15_goes (q := q) (sd := sd) (mn := mn) (t := t) hq hr hp hf ht9) (pu (by decide) (by decide) ((cn_4 ht9).symm.trans (go_3 (A := A) (C := C) (nC := nC) (sN := sN) (S := S) (m := 2 ^ p ||| f) (p := p) (x0 := x0) (g := g) (s := s) (e := e) (sw := sw) (c := c) (sd := sd) (mn := mn) (t := t) (by decide) (by decide)).symm))⟩
  · have ht9 : t < 100 := ht.resolve_right (by decide)
    have hiff := (cn_5 (A := A) (C := C) (nC := nC) (sN := sN) (S := S) (c := nI c) (m := 2 ^ p ||| f) (sw := sw) (p := p) (x0 := x0) (sd := sd) (mn := mn) (s := s) (e := e) ht9).symm.trans (go_3 (A := A) (C := C) (nC := nC) (sN := sN) (S := S) (m := 2 ^ p ||| f) (p := p) (x0 := x0) (g := g) (s := s) (e := e) (sw := sw) (c := c) (sd := sd) (mn := mn) (t := t) (by decide) (by decide)).symm
    refine ⟨11, "RapTable$Swap", _, _, yX11_goes, cX11_goes, 4, hK, by decide, rfl, mtX11_goes, rfl, q899, q900, ctr_w (c_X11_goes (q := q) (sd := sd) (mn := mn) (t := t) hq hr hp hf hsw hsd ht9 hK e0) (fun r h1 z => ?_)⟩
    rcases z with ⟨z1, rfl, rfl⟩ | ⟨z1, rfl, rfl⟩
    · exact ⟨R94_7, by rw [b2c_t (hiff.mp z1)], fun _ => ⟨by rw [upI_e]; rfl, by rw [upI_n (by decide)]; exact r8⟩⟩
    · exact ⟨R94_rf, by rw [b2c_f (fun y => z1 (hiff.mpr y))], fun y => absurd (hiff.mpr y) z1⟩
  · refine ⟨14, "RapTable$Call", _, _, yX14_goes, cX14_goes, 4, hK, by decide, rfl, mtX14_goes, rfl, q847, q848, ctr_w (c_X14_goes (q := q) (sd := sd) (mn := mn) (t := t) hq hr hc20 (by omega) hK e0) (fun r h1 z => ?_)⟩
    obtain ⟨rfl, rfl⟩ := z
    refine ⟨R94_8, by rw [b2c_t ((go_3 (A := A) (C := C) (nC := nC) (sN := sN) (S := S) (m := 2 ^ p ||| f) (p := p) (x0 := x0) (g := g) (s := s) (e := e) (sw := sw) (c := c) (sd := sd) (mn := mn) (t := t) (by decide) (by decide)).mpr (Or.inl rfl))], fun _ => ⟨by rw [upI_n (by decide)]; exact r7, by rw [upI_e]; rfl⟩⟩
  · exact ⟨17, "RapTable$Ready", _, _, yX17_goes, cX17_goes, 4, hK, by decide, rfl, mtX17_goes, rfl, q891, q892, ctr_w (c_X17_goes (q := q) (sd := sd) (mn := mn) (t := t) hq hr hp hf hsd (by omega) hs hK e0 e1) (pu (by decide) (by decide) (cn_7.symm.trans (go_3 (A := A) (C := C) (nC := nC) (sN := sN) (S := S) (m := 2 ^ p ||| f) (p := p) (x0 := x0) (g := g) (s := s) (e := e) (sw := sw) (c := c) (sd := sd) (mn := mn) (t := t) (by decide) (by decide)).symm))⟩
