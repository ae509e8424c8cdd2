set_option maxRecDepth 100000
/-- the lead that counts, as it is kept in a local -/
def LBV (A : Nat → Int32) (p t : Nat) (f : Nat → Nat) (k : Nat) (v : Value) : Prop := (lb_ A p t k = -1 ∧ v = .null) ∨ ∃ j, j < k ∧ lb_ A p t k = nI j ∧ v = .ref (f j)
def lbc (A : Nat → Int32) (p t n : Nat) : Prop := (A (1020 + 4 * n + 2) ≤ nI t ∧ nI t ≤ A (1020 + 4 * n + 3)) ∧ A (110 + p) < A (1020 + 4 * n + 1) ∧ (lb_ A p t n = -1 ∨ A (1020 + 4 * (lb_ A p t n).toNatClampNeg + 2) ≤ A (1020 + 4 * n + 2))
theorem LBV_sk {A : Nat → Int32} {p t k : Nat} {f : Nat → Nat} {v : Value} (h : ¬ lbc A p t k) (hv : LBV A p t f k v) : LBV A p t f (k + 1) v := by
  have e : lb_ A p t (k + 1) = lb_ A p t k := by unfold lbc at h; rw [lb_s, if_neg h]
  rcases hv with ⟨h1, h2⟩ | ⟨j, h0, h1, h2⟩
  · exact Or.inl ⟨e.trans h1, h2⟩
  · exact Or.inr ⟨j, by omega, e.trans h1, h2⟩
theorem LBV_ye {A : Nat → Int32} {p t k : Nat} {f : Nat → Nat} (h : lbc A p t k) : LBV A p t f (k + 1) (.ref (f k)) := Or.inr ⟨k, by omega, by unfold lbc at h; rw [lb_s, if_pos h], rfl⟩
theorem le_pr {k a : Nat} (hk : k < 2 ^ 31) (ha : a < 2 ^ 31) : nI k ≤ nI a - 1 ↔ nI k < nI a := by
  rcases a with _ | m
  · constructor
    · intro z
      exact absurd (Int32.le_trans (show (0 : Int32) ≤ nI k from Int32.not_lt.mp (nI_pos hk)) z) (by decide)
    · intro z; exact absurd z (nI_pos hk)
  · rw [nI_pred, nI_leI hk (by omega), nI_ltI hk ha]; omega
theorem ord_m {C : Nat → Nat → Int32} {nC sN p t : Nat} {S : Int32} (hc : cl_ok C nC sN) (h9 : sN ≤ 9) : (ord_ C nC S p t = -1 ∧ rul_ C S p t nC = -1) ∨ (¬ ord_ C nC S p t = -1 ∧ ¬ rul_ C S p t nC = -1 ∧ ord_ C nC S p t = C 2 (rul_ C S p t nC).toNatClampNeg) := by
  unfold ord_
  rcases rul_c C S p t nC with e | ⟨k, h1, h2, h3⟩
  · rw [if_pos e]; exact Or.inl ⟨rfl, e⟩
  · have h8 := hc.1
    have hne : ¬ rul_ C S p t nC = -1 := by rw [h2]; exact nI_ne1 (by omega)
    rw [if_neg hne, h2, nI_clamp (by omega)]
    rcases (hc.2 k h1).1 with ⟨e, -⟩ | ⟨e, -⟩ | ⟨-, -, ⟨j, hj, e⟩⟩
    · exact absurd (h3.symm.trans e) (by decide)
    · exact absurd (h3.symm.trans e) (by decide)
    · exact Or.inr ⟨by rw [e]; exact nI_ne1 (by omega), nI_ne1 (by omega), rfl⟩

theorem c_X5_holds {G : Gv} {h : AH} {q : Nat} (hK : hp_K h q = (5, 0)) (s : Int32) : Ctr G 0 yX5_holds cX5_holds 2 (some .boolean) [.ref q, .int s] h 0 0 (Pu h (.int (b2i (hp_I h q 2 ≤ s ∧ s ≤ hp_I h q 3)))) := by
  refine ctr_of (own := RX5) (nm := "holds") (by decide) (Nat.le_of_ble_eq_true rfl) ?_
  refine v_iload_n dX5_holds_0 rfl rfl ?_
  refine v_aload_n dX5_holds_1 rfl rfl ?_
  refine v_getI fX5_16 dX5_holds_2 hK ?_
  refine v_icmp_lt (tgt := 20) dX5_holds_5 (by decide) (fun b5 => ?_) (fun b5 => ?_)
  · skip
    refine v_iconst (v := 0) dX5_holds_20 (by decide) ?_
    exact v_reti dX5_holds_21 (by first | rfl | exact rt_z) (Pu_i (by (try simp only [Int32.not_lt] at *); first | exact (b2i_t (by grind)).symm | exact (b2i_f (by grind)).symm))
  · skip
    refine v_iload_n dX5_holds_8 rfl rfl ?_
    refine v_aload_n dX5_holds_9 rfl rfl ?_
    refine v_getI fX5_19 dX5_holds_10 hK ?_
    refine v_icmp_gt (tgt := 20) dX5_holds_13 (by decide) (fun b13 => ?_) (fun b13 => ?_)
    · skip
      refine v_iconst (v := 0) dX5_holds_20 (by decide) ?_
      exact v_reti dX5_holds_21 (by first | rfl | exact rt_z) (Pu_i (by (try simp only [Int32.not_lt] at *); first | exact (b2i_t (by grind)).symm | exact (b2i_f (by grind)).symm))
    · skip
      refine v_iconst (v := 1) dX5_holds_16 (by decide) ?_
      refine v_goto (tgt := 21) dX5_holds_17 (by decide) ?_
      exact v_reti dX5_holds_21 (by first | rfl | exact rt_z) (Pu_i (by (try simp only [Int32.not_lt] at *); first | exact (b2i_t (by grind)).symm | exact (b2i_f (by grind)).symm))

theorem c_X1_led {G : Gv} {h : AH} {b sN : Nat} {A : Nat → Int32} (hS : SI_ h b A) (hv : sv_ok A sN) {p t : Nat} (hp : p < 9) (ht : t < 100) : Ctr G 4 yX1_led cX1_led 6 (some (.object "RapTable$Lead")) [.ref b, .int (nI p), .int (nI t)] h 0 0 (fun r h1 => h1 = h ∧ ((lb_ A p t (nLed A) = -1 ∧ r = some .null) ∨ ∃ q j, j < nLed A ∧ lb_ A p t (nLed A) = nI j ∧ LE_ h q A j ∧ r = some (.ref q))) := by
  refine ctr_of (own := RX1) (nm := "led") (by decide) (Nat.le_of_ble_eq_true rfl) ?_
  obtain ⟨DL, cL, fL, hLA, hLE⟩ := si_leads hS
  have hl12 := (sv_led hv).1
  refine v_null dX1_led_0 ?_
  refine v_astore_nN dX1_led_1 rfl (by decide) ?_
  refine v_iconst (v := 0) dX1_led_2 (by decide) ?_
  refine v_istore dX1_led_3 (by decide) ?_
  refine v_loc2 (by repeat' (first | exact trivial | refine And.intro ?_ ?_ | exact rfl)) (v_lp2 (fun (k : Nat) (v : Value) => nLed A - k) (fun (k : Nat) (v : Value) => k ≤ nLed A ∧ LBV A p t fL k v) (fun (k : Nat) (v : Value) => [(0, .ref b), (1, .int (nI p)), (2, .int (nI t)), (3, v), (4, .int (nI k))]) (fun (k : Nat) (v : Value) => h) ?_ 0 _ ⟨Nat.zero_le _, Or.inl ⟨rfl, rfl⟩⟩)
  intro k v ⟨hk, hvv⟩ IH
  have hv9 := hvv
  rcases hv9 with ⟨e, rfl⟩ | ⟨j, hj, e, rfl⟩
  · skip
    refine v_iload dX1_led_5 rfl ?_
    refine v_aload_n dX1_led_7 rfl rfl ?_
    refine v_getR fX1_37 dX1_led_8 (si_K hS) (si_Rleads hS) ?_
    refine v_pV mtJ2_size q605 q482 q483 rfl (by decide) dX1_led_11 (c_J2_size hLA) (hLA).1 (by first | decide | omega) ?_
    refine v_icmp_ge (tgt := 79) dX1_led_14 (by decide) (fun b14 => ?_) (fun b14 => ?_)
    · skip
      have hkn : nLed A ≤ k := (nI_leI (by omega) (by omega)).mp b14
      obtain rfl : k = nLed A := by omega
      refine v_aload_nN dX1_led_79 rfl rfl ?_
      first | exact v_retN dX1_led_80 (Or.inl ⟨_, rfl⟩) ⟨rfl, Or.inl ⟨e, rfl⟩⟩ | exact v_reta dX1_led_80 (Or.inl ⟨_, rfl⟩) ⟨rfl, Or.inr ⟨_, j, hj, e, hLE j hj, rfl⟩⟩
    · skip
      have hkn : k < nLed A := Nat.lt_of_not_le (fun z => b14 ((nI_leI (by omega) (by omega)).mpr z))
      have hE := hLE k hkn
      refine v_aload_n dX1_led_17 rfl rfl ?_
      refine v_getR fX1_37 dX1_led_18 (si_K hS) (si_Rleads hS) ?_
      refine v_iload dX1_led_21 rfl ?_
      refine v_pV mtJ2_get q606 q607 q608 rfl (by decide) dX1_led_23 (c_J2_get hLA rfl hkn) (hLA).1 (by first | decide | omega) ?_
      refine v_castS (hE).1 (by decide) rfl q703 dX1_led_26 ?_
      refine v_astore dX1_led_29 (by decide) ?_
      refine v_aload dX1_led_31 rfl ?_
      refine v_iload_n dX1_led_33 rfl rfl ?_
      refine v_pV mtX5_holds q749 q750 q751 rfl (by decide) dX1_led_34 (c_X5_holds hE.1 _) (hE).1 (by first | decide | omega) ?_
      refine v_if_eq (tgt := 73) dX1_led_37 (by decide) (fun b37 => ?_) (fun b37 => ?_)
      · skip
        rw [b2i_0] at b37
        have hnx := LBV_sk (fun z => b37 (by rw [hE.2.2.2.1, hE.2.2.2.2]; exact z.1)) hvv
        refine v_iinc dX1_led_73 rfl (by first | with_reducible exact nI_inc _ | exact rfl) (by decide) ?_
        refine v_goto (tgt := 5) dX1_led_76 (by decide) ?_
        exact v_loc2 (by repeat' (first | exact trivial | refine And.intro ?_ ?_ | exact rfl)) (IH (k + 1) _ ⟨hkn, hnx⟩ (by omega))
      · skip
        rw [b2i_n0, hE.2.2.2.1, hE.2.2.2.2] at b37
        refine v_aload_n dX1_led_40 rfl rfl ?_
        refine v_getR fX1_18 dX1_led_41 (si_K hS) (si_Rfirm hS) ?_
        refine v_iload_n dX1_led_44 rfl rfl ?_
        refine v_iald dX1_led_45 (si_firm hS) rfl (by first | assumption | omega) ?_
        rw [si_Dfirm hS _ hp]
        refine v_aload dX1_led_46 rfl ?_
        refine v_getI fX1_87 dX1_led_48 (hE).1 ?_
        refine v_icmp_ge (tgt := 73) dX1_led_51 (by decide) (fun b51 => ?_) (fun b51 => ?_)
        · skip
          have hnx := LBV_sk (fun z => absurd z.2.1 (Int32.not_lt.mpr (by rw [← hE.2.2.1]; exact b51))) hvv
          refine v_iinc dX1_led_73 rfl (by first | with_reducible exact nI_inc _ | exact rfl) (by decide) ?_
          refine v_goto (tgt := 5) dX1_led_76 (by decide) ?_
          exact v_loc2 (by repeat' (first | exact trivial | refine And.intro ?_ ?_ | exact rfl)) (IH (k + 1) _ ⟨hkn, hnx⟩ (by omega))
        · skip
          have h51 : A (110 + p) < A (1020 + 4 * k + 1) := by rw [← hE.2.2.1]; exact Int32.not_le.mp b51
          refine v_aload_nN dX1_led_54 rfl rfl ?_
          refine v_ifnullN (tgt := 70) dX1_led_55 (by decide) ?_
          have hnx : LBV A p t fL (k + 1) (.ref (fL k)) := LBV_ye (by first | exact hyes | exact ⟨b37, h51, Or.inl e⟩)
          refine v_aload dX1_led_70 rfl ?_
          refine v_astore_n dX1_led_72 rfl (by decide) ?_
          refine v_iinc dX1_led_73 rfl (by first | with_reducible exact nI_inc _ | exact rfl) (by decide) ?_
          refine v_goto (tgt := 5) dX1_led_76 (by decide) ?_
          exact v_loc2 (by repeat' (first | exact trivial | refine And.intro ?_ ?_ | exact rfl)) (IH (k + 1) _ ⟨hkn, hnx⟩ (by omega))
  · skip
    refine v_iload dX1_led_5 rfl ?_
    refine v_aload_n dX1_led_7 rfl rfl ?_
    refine v_getR fX1_37 dX1_led_8 (si_K hS) (si_Rleads hS) ?_
    refine v_pV mtJ2_size q605 q482 q483 rfl (by decide) dX1_led_11 (c_J2_size hLA) (hLA).1 (by first | decide | omega) ?_
    refine v_icmp_ge (tgt := 79) dX1_led_14 (by decide) (fun b14 => ?_) (fun b14 => ?_)
    · skip
      have hkn : nLed A ≤ k := (nI_leI (by omega) (by omega)).mp b14
      obtain rfl : k = nLed A := by omega
      refine v_aload_n dX1_led_79 rfl rfl ?_
      first | exact v_retN dX1_led_80 (Or.inl ⟨_, rfl⟩) ⟨rfl, Or.inl ⟨e, rfl⟩⟩ | exact v_reta dX1_led_80 (Or.inl ⟨_, rfl⟩) ⟨rfl, Or.inr ⟨_, j, hj, e, hLE j hj, rfl⟩⟩
    · skip
      have hkn : k < nLed A := Nat.lt_of_not_le (fun z => b14 ((nI_leI (by omega) (by omega)).mpr z))
      have hE := hLE k hkn
      refine v_aload_n dX1_led_17 rfl rfl ?_
      refine v_getR fX1_37 dX1_led_18 (si_K hS) (si_Rleads hS) ?_
      refine v_iload dX1_led_21 rfl ?_
      refine v_pV mtJ2_get q606 q607 q608 rfl (by decide) dX1_led_23 (c_J2_get hLA rfl hkn) (hLA).1 (by first | decide | omega) ?_
      refine v_castS (hE).1 (by decide) rfl q703 dX1_led_26 ?_
      refine v_astore dX1_led_29 (by decide) ?_
      refine v_aload dX1_led_31 rfl ?_
      refine v_iload_n dX1_led_33 rfl rfl ?_
      refine v_pV mtX5_holds q749 q750 q751 rfl (by decide) dX1_led_34 (c_X5_holds hE.1 _) (hE).1 (by first | decide | omega) ?_
      refine v_if_eq (tgt := 73) dX1_led_37 (by decide) (fun b37 => ?_) (fun b37 => ?_)
      · skip
        rw [b2i_0] at b37
        have hnx := LBV_sk (fun z => b37 (by rw [hE.2.2.2.1, hE.2.2.2.2]; exact z.1)) hvv
        refine v_iinc dX1_led_73 rfl (by first | with_reducible exact nI_inc _ | exact rfl) (by decide) ?_
        refine v_goto (tgt := 5) dX1_led_76 (by decide) ?_
        exact v_loc2 (by repeat' (first | exact trivial | refine And.intro ?_ ?_ | exact rfl)) (IH (k + 1) _ ⟨hkn, hnx⟩ (by omega))
      · skip
        rw [b2i_n0, hE.2.2.2.1, hE.2.2.2.2] at b37
        refine v_aload_n dX1_led_40 rfl rfl ?_
        refine v_getR fX1_18 dX1_led_41 (si_K hS) (si_Rfirm hS) ?_
        refine v_iload_n dX1_led_44 rfl rfl ?_
        refine v_iald dX1_led_45 (si_firm hS) rfl (by first | assumption | omega) ?_
        rw [si_Dfirm hS _ hp]
        refine v_aload dX1_led_46 rfl ?_
        refine v_getI fX1_87 dX1_led_48 (hE).1 ?_
        refine v_icmp_ge (tgt := 73) dX1_led_51 (by decide) (fun b51 => ?_) (fun b51 => ?_)
        · skip
          have hnx := LBV_sk (fun z => absurd z.2.1 (Int32.not_lt.mpr (by rw [← hE.2.2.1]; exact b51))) hvv
          refine v_iinc dX1_led_73 rfl (by first | with_reducible exact nI_inc _ | exact rfl) (by decide) ?_
          refine v_goto (tgt := 5) dX1_led_76 (by decide) ?_
          exact v_loc2 (by repeat' (first | exact trivial | refine And.intro ?_ ?_ | exact rfl)) (IH (k + 1) _ ⟨hkn, hnx⟩ (by omega))
        · skip
          have h51 : A (110 + p) < A (1020 + 4 * k + 1) := by rw [← hE.2.2.1]; exact Int32.not_le.mp b51
          refine v_aload_n dX1_led_54 rfl rfl ?_
          refine v_ifnull dX1_led_55 ?_
          refine v_aload dX1_led_58 rfl ?_
          refine v_getI fX1_90 dX1_led_60 (hE).1 ?_
          refine v_aload_n dX1_led_63 rfl rfl ?_
          refine v_getI fX1_90 dX1_led_64 (hLE j (by omega)).1 ?_
          refine v_icmp_lt (tgt := 73) dX1_led_67 (by decide) (fun b67 => ?_) (fun b67 => ?_)
          · skip
            have hnx := LBV_sk (A := A) (p := p) (t := t) (k := k) (f := fL) (fun z => z.2.2.elim (fun y => nI_ne1 (by omega) (e.symm.trans y)) (fun y => Int32.not_lt.mpr y (by rw [e, nI_clamp (by omega), ← hE.2.2.2.1, ← (hLE j (by omega)).2.2.2.1]; exact b67))) hvv
            refine v_iinc dX1_led_73 rfl (by first | with_reducible exact nI_inc _ | exact rfl) (by decide) ?_
            refine v_goto (tgt := 5) dX1_led_76 (by decide) ?_
            exact v_loc2 (by repeat' (first | exact trivial | refine And.intro ?_ ?_ | exact rfl)) (IH (k + 1) _ ⟨hkn, hnx⟩ (by omega))
          · skip
            have hyes : lbc A p t k := ⟨b37, h51, Or.inr (by rw [e, nI_clamp (by omega), ← hE.2.2.2.1, ← (hLE j (by omega)).2.2.2.1]; exact Int32.not_lt.mp b67)⟩
            have hnx : LBV A p t fL (k + 1) (.ref (fL k)) := LBV_ye (by first | exact hyes | exact ⟨b37, h51, Or.inl e⟩)
            refine v_aload dX1_led_70 rfl ?_
            refine v_astore_n dX1_led_72 rfl (by decide) ?_
            refine v_iinc dX1_led_73 rfl (by first | with_reducible exact nI_inc _ | exact rfl) (by decide) ?_
            refine v_goto (tgt := 5) dX1_led_76 (by decide) ?_
            exact v_loc2 (by repeat' (first | exact trivial | refine And.intro ?_ ?_ | exact rfl)) (IH (k + 1) _ ⟨hkn, hnx⟩ (by omega))

theorem c_X1_where {G : Gv} {h : AH} {b sN : Nat} {A : Nat → Int32} (hS : SI_ h b A) (hv : sv_ok A sN) {th : Nat} {s s1 : Int32} (hth : th < 8) (hs : ∀ m, m < nMov A → (A (4680 + 5 * m + 3) ≤ s ↔ A (4680 + 5 * m + 3) < s1)) : Ctr G 4 yX1_where cX1_where 5 (some .int) [.ref b, .int (nI th), .int s] h 0 0 (Pu h (.int (wh_ A th s1 (nMov A)))) := by
  refine ctr_of (own := RX1) (nm := "where") (by decide) (Nat.le_of_ble_eq_true rfl) ?_
  obtain ⟨DM, cM, fM, hMA, hME⟩ := si_moves hS
  have hm40 := (sv_mov hv).1
  refine v_aload_n dX1_where_0 rfl rfl ?_
  refine v_getR fX1_44 dX1_where_1 (si_K hS) (si_Rspots hS) ?_
  refine v_iload_n dX1_where_4 rfl rfl ?_
  refine v_iald dX1_where_5 (si_spots hS) rfl (by first | assumption | omega) ?_
  rw [si_Dspots hS _ hth]
  refine v_istore_n dX1_where_6 rfl (by decide) ?_
  refine v_iconst (v := 0) dX1_where_7 (by decide) ?_
  refine v_istore dX1_where_8 (by decide) ?_
  refine v_loc2 (by repeat' (first | exact trivial | refine And.intro ?_ ?_ | exact rfl)) (v_lp2 (fun (k : Nat) (z : Int32) => nMov A - k) (fun (k : Nat) (z : Int32) => k ≤ nMov A ∧ z = wh_ A th s1 k) (fun (k : Nat) (z : Int32) => [(0, .ref b), (1, .int (nI th)), (2, .int s), (3, .int z), (4, .int (nI k))]) (fun (k : Nat) (z : Int32) => h) ?_ 0 _ ⟨Nat.zero_le _, rfl⟩)
  intro k z ⟨hk, hz⟩ IH
  subst hz
  refine v_iload dX1_where_10 rfl ?_
  refine v_aload_n dX1_where_12 rfl rfl ?_
  refine v_getR fX1_41 dX1_where_13 (si_K hS) (si_Rmoves hS) ?_
  refine v_pV mtJ2_size q605 q482 q483 rfl (by decide) dX1_where_16 (c_J2_size hMA) (hMA).1 (by first | decide | omega) ?_
  refine v_icmp_ge (tgt := 82) dX1_where_19 (by decide) (fun b19 => ?_) (fun b19 => ?_)
  · skip
    have hkn : nMov A ≤ k := (nI_leI (by omega) (by omega)).mp b19
    obtain rfl : k = nMov A := by omega
    refine v_iload_n dX1_where_82 rfl rfl ?_
    exact v_reti dX1_where_83 rfl (Pu_i rfl)
  · skip
    have hkn : k < nMov A := Nat.lt_of_not_le (fun z => b19 ((nI_leI (by omega) (by omega)).mpr z))
    have hE := hME k hkn
    refine v_aload_n dX1_where_22 rfl rfl ?_
    refine v_getR fX1_41 dX1_where_23 (si_K hS) (si_Rmoves hS) ?_
    refine v_iload dX1_where_26 rfl ?_
    refine v_pV mtJ2_get q606 q607 q608 rfl (by decide) dX1_where_28 (c_J2_get hMA rfl hkn) (hMA).1 (by first | decide | omega) ?_
    refine v_castS (hE).1 (by decide) rfl q620 dX1_where_31 ?_
    refine v_getI fX1_74 dX1_where_34 (hE).1 ?_
    refine v_iload_n dX1_where_37 rfl rfl ?_
    refine v_icmp_ne (tgt := 76) dX1_where_38 (by decide) (fun b38 => ?_) (fun b38 => ?_)
    · skip
      rw [hE.2.2.1] at b38
      have hnx : wh_ A th s1 (k + 1) = wh_ A th s1 k := by rw [wh_s, if_neg (fun z => b38 z.1)]
      refine v_iinc dX1_where_76 rfl (by first | with_reducible exact nI_inc _ | exact rfl) (by decide) ?_
      refine v_goto (tgt := 10) dX1_where_79 (by decide) ?_
      exact v_loc2 (by repeat' (first | exact trivial | refine And.intro ?_ ?_ | exact rfl)) (IH (k + 1) _ ⟨hkn, hnx.symm⟩ (by omega))
    · skip
      rw [hE.2.2.1] at b38
      refine v_aload_n dX1_where_41 rfl rfl ?_
      refine v_getR fX1_41 dX1_where_42 (si_K hS) (si_Rmoves hS) ?_
      refine v_iload dX1_where_45 rfl ?_
      refine v_pV mtJ2_get q606 q607 q608 rfl (by decide) dX1_where_47 (c_J2_get hMA rfl hkn) (hMA).1 (by first | decide | omega) ?_
      refine v_castS (hE).1 (by decide) rfl q620 dX1_where_50 ?_
      refine v_getI fX1_77 dX1_where_53 (hE).1 ?_
      refine v_iload_n dX1_where_56 rfl rfl ?_
      refine v_icmp_gt (tgt := 76) dX1_where_57 (by decide) (fun b57 => ?_) (fun b57 => ?_)
      · skip
        rw [hE.2.2.2.2.2] at b57
        have hnx : wh_ A th s1 (k + 1) = wh_ A th s1 k := by rw [wh_s, if_neg (fun z => Int32.not_le.mpr b57 ((hs k hkn).mpr z.2))]
        refine v_iinc dX1_where_76 rfl (by first | with_reducible exact nI_inc _ | exact rfl) (by decide) ?_
        refine v_goto (tgt := 10) dX1_where_79 (by decide) ?_
        exact v_loc2 (by repeat' (first | exact trivial | refine And.intro ?_ ?_ | exact rfl)) (IH (k + 1) _ ⟨hkn, hnx.symm⟩ (by omega))
      · skip
        rw [hE.2.2.2.2.2] at b57
        have hnx : wh_ A th s1 (k + 1) = A (4680 + 5 * k + 2) := by rw [wh_s, if_pos ⟨b38, (hs k hkn).mp (Int32.not_lt.mp b57)⟩]
        refine v_aload_n dX1_where_60 rfl rfl ?_
        refine v_getR fX1_41 dX1_where_61 (si_K hS) (si_Rmoves hS) ?_
        refine v_iload dX1_where_64 rfl ?_
        refine v_pV mtJ2_get q606 q607 q608 rfl (by decide) dX1_where_66 (c_J2_get hMA rfl hkn) (hMA).1 (by first | decide | omega) ?_
        refine v_castS (hE).1 (by decide) rfl q620 dX1_where_69 ?_
        refine v_getI fX1_80 dX1_where_72 (hE).1 ?_
        rw [hE.2.2.2.2.1]
        refine v_istore_n dX1_where_75 rfl (by decide) ?_
        refine v_iinc dX1_where_76 rfl (by first | with_reducible exact nI_inc _ | exact rfl) (by decide) ?_
        refine v_goto (tgt := 10) dX1_where_79 (by decide) ?_
        exact v_loc2 (by repeat' (first | exact trivial | refine And.intro ?_ ?_ | exact rfl)) (IH (k + 1) _ ⟨hkn, hnx.symm⟩ (by omega))

theorem c_X0_eyesOf {G : Gv} {h : AH} {b nC sN : Nat} {A : Nat → Int32} {C : Nat → Nat → Int32} {S : Int32} (hq : XQ_ h b A C nC sN S) {p t : Nat} (hp : p < 9) (ht : t < 100) : Ctr G 6 yX0_eyesOf cX0_eyesOf 5 (some .int) [.ref 30, .int (nI p), .int (nI t)] h 0 0 (Pu h (.int (eyes_ A C nC S p t))) := by
  refine ctr_of (own := RX0) (nm := "eyesOf") (by decide) (Nat.le_of_ble_eq_true rfl) ?_
  have hq9 := hq
  obtain ⟨hX, hS, ⟨DC, cC, fC, hCA, hCE⟩, hv, hc⟩ := hq9
  have h39 := sv_s hv
  have h8 := hc.1
  have hor := ord_m (S := S) (p := p) (t := t) hc h39.2
  refine v_aload_n dX0_eyesOf_0 rfl rfl ?_
  refine v_iload_n dX0_eyesOf_1 rfl rfl ?_
  refine v_iload_n dX0_eyesOf_2 rfl rfl ?_
  refine v_pV mtX0_ordered q732 q734 qs16 rfl (by decide) dX0_eyesOf_3 (c_X0_ordered hq) hX.1 (by first | decide | omega) ?_
  refine v_istore_n dX0_eyesOf_6 rfl (by decide) ?_
  refine v_iload_n dX0_eyesOf_7 rfl rfl ?_
  refine v_iconst (v := (-1)) dX0_eyesOf_8 (by decide) ?_
  refine v_icmp_eq (tgt := 14) dX0_eyesOf_9 (by decide) (fun b9 => ?_) (fun b9 => ?_)
  · skip
    have hru := (hor.resolve_right (fun z => z.1 b9)).2
    refine v_aload_n dX0_eyesOf_14 rfl rfl ?_
    refine v_getR fX0_32 dX0_eyesOf_15 hX.1 hX.2.2.1 ?_
    refine v_iload_n dX0_eyesOf_18 rfl rfl ?_
    refine v_iload_n dX0_eyesOf_19 rfl rfl ?_
    refine v_zV mtX1_led q745 q746 q747 rfl (by decide) dX0_eyesOf_20 (c_X1_led hS hv hp ht) (si_K hS) (by decide) (fun r20 h20 q20 z20 => ?_)
    obtain ⟨rfl, hled⟩ := q20
    rcases hled with ⟨e, rfl⟩ | ⟨q, j, hj, e, hE, rfl⟩
    · skip
      refine v_astoreN dX0_eyesOf_23 (by decide) ?_
      refine v_aloadN dX0_eyesOf_25 rfl ?_
      refine v_ifnonnullN dX0_eyesOf_27 ?_
      refine v_aload_n dX0_eyesOf_30 rfl rfl ?_
      refine v_getR fX0_32 dX0_eyesOf_31 hX.1 hX.2.2.1 ?_
      refine v_getR fX0_126 dX0_eyesOf_34 (si_K hS) (si_Reyes hS) ?_
      refine v_iload_n dX0_eyesOf_37 rfl rfl ?_
      refine v_aald (t := 4) dX0_eyesOf_38 (si_eyes hS) (by decide) rfl hp (si_eyesV hS hp) ?_ (by decide)
      refine v_iload_n dX0_eyesOf_39 rfl rfl ?_
      refine v_iald dX0_eyesOf_40 (si_eyesK hS _ hp) rfl ht ?_
      refine v_goto (tgt := 49) dX0_eyesOf_41 (by decide) ?_
      exact v_reti dX0_eyesOf_49 rfl (Pu_i (by unfold eyes_; rw [si_Deyes hS _ hp _ ht, if_pos hru, if_pos e]))
    · skip
      refine v_astore dX0_eyesOf_23 (by decide) ?_
      refine v_aload dX0_eyesOf_25 rfl ?_
      refine v_ifnonnull (tgt := 44) dX0_eyesOf_27 (by decide) ?_
      refine v_aload dX0_eyesOf_44 rfl ?_
      refine v_getI fX0_225 dX0_eyesOf_46 hE.1 ?_
      exact v_reti dX0_eyesOf_49 rfl (Pu_i (by unfold eyes_; rw [hE.2.1, if_pos hru, if_neg (by rw [e]; have := (sv_led hv).1; exact nI_ne1 (by omega)), e, nI_clamp (by have := (sv_led hv).1; omega)]))
  · skip
    have hru := (hor.resolve_left (fun z => b9 z.1)).2
    refine v_iload_n dX0_eyesOf_12 rfl rfl ?_
    exact v_reti dX0_eyesOf_13 rfl (Pu_i (by unfold eyes_; rw [if_neg hru.1]; exact hru.2))

theorem c_X0_sees {G : Gv} {h : AH} {b nC sN : Nat} {A : Nat → Int32} {C : Nat → Nat → Int32} {S : Int32} (hq : XQ_ h b A C nC sN S) {p t : Nat} (hp : p < 9) (ht : t < 100) (x : Int32) : Ctr G 7 yX0_sees cX0_sees 4 (some .boolean) [.ref 30, .int (nI p), .int x, .int (nI t)] h 0 0 (Pu h (.int (b2c (see_ A C nC S p x t)))) := by
  refine ctr_of (own := RX0) (nm := "sees") (by decide) (Nat.le_of_ble_eq_true rfl) ?_
  have hq9 := hq
  obtain ⟨hX, hS, ⟨DC, cC, fC, hCA, hCE⟩, hv, hc⟩ := hq9
  have h39 := sv_s hv
  have h8 := hc.1
  refine v_aload_n dX0_sees_0 rfl rfl ?_
  refine v_iload_n dX0_sees_1 rfl rfl ?_
  refine v_iload_n dX0_sees_2 rfl rfl ?_
  refine v_pV mtX0_eyesOf q728 q730 qs15 rfl (by decide) dX0_sees_3 (c_X0_eyesOf hq ?_ ?_) hX.1 (by first | decide | omega) ?_
  · omega
  · omega
  refine v_iload_n dX0_sees_6 rfl rfl ?_
  refine v_icmp_ne (tgt := 31) dX0_sees_7 (by decide) (fun b7 => ?_) (fun b7 => ?_)
  · skip
    have hq9 : ¬ see_ A C nC S p x t := fun z => b7 z.1
    refine v_iconst (v := 0) dX0_sees_31 (by decide) ?_
    first | exact v_reti dX0_sees_32 rfl (Pu_i (b2c_t hq9).symm) | exact v_reti dX0_sees_32 rfl (Pu_i (b2c_f hq9).symm)
  · skip
    refine v_aload_n dX0_sees_10 rfl rfl ?_
    refine v_iload_n dX0_sees_11 rfl rfl ?_
    refine v_pV mtX0_lightAt q714 q716 qs14 rfl (by decide) dX0_sees_12 (c_X0_lightAt hq ?_) hX.1 (by first | decide | omega) ?_
    · first | assumption | omega
    refine v_aload_n dX0_sees_15 rfl rfl ?_
    refine v_getR fX0_32 dX0_sees_16 hX.1 hX.2.2.1 ?_
    refine v_getR fX0_111 dX0_sees_19 (si_K hS) (si_Rneed hS) ?_
    refine v_iload_n dX0_sees_22 rfl rfl ?_
    refine v_iald dX0_sees_23 (si_need hS) rfl (by first | assumption | omega) ?_
    rw [si_Dneed hS _ hp]
    refine v_icmp_lt (tgt := 31) dX0_sees_24 (by decide) (fun b24 => ?_) (fun b24 => ?_)
    · skip
      have hq9 : ¬ see_ A C nC S p x t := fun z => Int32.not_lt.mpr z.2 b24
      refine v_iconst (v := 0) dX0_sees_31 (by decide) ?_
      first | exact v_reti dX0_sees_32 rfl (Pu_i (b2c_t hq9).symm) | exact v_reti dX0_sees_32 rfl (Pu_i (b2c_f hq9).symm)
    · skip
      have hq9 : see_ A C nC S p x t := ⟨b7, Int32.not_lt.mp b24⟩
      refine v_iconst (v := 1) dX0_sees_27 (by decide) ?_
      refine v_goto (tgt := 32) dX0_sees_28 (by decide) ?_
      first | exact v_reti dX0_sees_32 rfl (Pu_i (b2c_t hq9).symm) | exact v_reti dX0_sees_32 rfl (Pu_i (b2c_f hq9).symm)

theorem c_X0_isFree {G : Gv} {h : AH} {b nC sN : Nat} {A : Nat → Int32} {C : Nat → Nat → Int32} {S : Int32} (hq : XQ_ h b A C nC sN S) {a t : Nat} (ha : a < 18) (ht : t < 100) : Ctr G 6 yX0_isFree cX0_isFree 4 (some .boolean) [.ref 30, .int (nI a), .int (nI t)] h 0 0 (Pu h (.int (b2c (free_ A C nC sN S a t)))) := by
  refine ctr_of (own := RX0) (nm := "isFree") (by decide) (Nat.le_of_ble_eq_true rfl) ?_
  have hq9 := hq
  obtain ⟨hX, hS, ⟨DC, cC, fC, hCA, hCE⟩, hv, hc⟩ := hq9
  have h39 := sv_s hv
  have h8 := hc.1
  refine v_aload_n dX0_isFree_0 rfl rfl ?_
  refine v_getR fX0_32 dX0_isFree_1 hX.1 hX.2.2.1 ?_
  refine v_getR fX0_156 dX0_isFree_4 (si_K hS) (si_Rtruly hS) ?_
  refine v_iload_n dX0_isFree_7 rfl rfl ?_
  refine v_aald (t := 4) dX0_isFree_8 (si_truly hS) (by decide) rfl (by first | assumption | omega) (si_trulyV hS (by first | assumption | omega)) ?_ (by decide)
  refine v_iload_n dX0_isFree_9 rfl rfl ?_
  refine v_iald dX0_isFree_10 (si_trulyK hS _ (by first | assumption | omega)) rfl (by first | assumption | omega) ?_
  rw [si_Dtruly hS _ ha _ ht]
  refine v_iconst (v := (-1)) dX0_isFree_11 (by decide) ?_
  refine v_icmp_eq (tgt := 17) dX0_isFree_12 (by decide) (fun b12 => ?_) (fun b12 => ?_)
  · skip
    refine v_iconst (v := 0) dX0_isFree_17 (by decide) ?_
    refine v_istore_n dX0_isFree_18 rfl (by decide) ?_
    refine v_loc2 (by repeat' (first | exact trivial | refine And.intro ?_ ?_ | exact rfl)) (v_lp1 (fun (k : Nat) => 2 * sN - k) (fun (k : Nat) => k ≤ 2 * sN ∧ ∀ c, c < k → ¬ A (2870 + 100 * c + t) = nI a) (fun (k : Nat) => [(0, .ref 30), (1, .int (nI a)), (2, .int (nI t)), (3, .int (nI k))]) (fun _ => []) (fun (k : Nat) => h) ?_ 0 ⟨Nat.zero_le _, fun c hc => absurd hc (Nat.not_lt_zero _)⟩)
    intro k ⟨hk, hI⟩ IH
    refine v_iload_n dX0_isFree_19 rfl rfl ?_
    refine v_iconst (v := 2) dX0_isFree_20 (by decide) ?_
    refine v_aload_n dX0_isFree_21 rfl rfl ?_
    refine v_getI fX0_25 dX0_isFree_22 hX.1 ?_
    rw [hX.2.1]
    refine v_imul dX0_isFree_25 ?_
    rw [nI_2]
    refine v_icmp_ge (tgt := 52) dX0_isFree_26 (by decide) (fun b26 => ?_) (fun b26 => ?_)
    · skip
      have hkn : 2 * sN ≤ k := (nI_leI (by omega) (by omega)).mp b26
      refine v_aload_n dX0_isFree_52 rfl rfl ?_
      refine v_iload_n dX0_isFree_53 rfl rfl ?_
      refine v_iload_n dX0_isFree_54 rfl rfl ?_
      refine v_pV mtX0_isTied q631 q633 qs12 rfl (by decide) dX0_isFree_55 (c_X0_isTied hq) hX.1 (by first | decide | omega) ?_
      refine v_if_ne (tgt := 65) dX0_isFree_58 (by decide) (fun b58 => ?_) (fun b58 => ?_)
      · skip
        have hq9 : ¬ free_ A C nC sN S a t := fun z => z.2.2 (b2c_n0.mp b58)
        refine v_iconst (v := 0) dX0_isFree_65 (by decide) ?_
        first | exact v_reti dX0_isFree_66 rfl (Pu_i (b2c_t hq9).symm) | exact v_reti dX0_isFree_66 rfl (Pu_i (b2c_f hq9).symm)
      · skip
        have hq9 : free_ A C nC sN S a t := ⟨b12, fun c hc9 => hI c (by omega), b2c_0.mp b58⟩
        refine v_iconst (v := 1) dX0_isFree_61 (by decide) ?_
        refine v_goto (tgt := 66) dX0_isFree_62 (by decide) ?_
        first | exact v_reti dX0_isFree_66 rfl (Pu_i (b2c_t hq9).symm) | exact v_reti dX0_isFree_66 rfl (Pu_i (b2c_f hq9).symm)
    · skip
      have hkn : k < 2 * sN := Nat.lt_of_not_le (fun z => b26 ((nI_leI (by omega) (by omega)).mpr z))
      refine v_aload_n dX0_isFree_29 rfl rfl ?_
      refine v_getR fX0_32 dX0_isFree_30 hX.1 hX.2.2.1 ?_
      refine v_getR fX0_156 dX0_isFree_33 (si_K hS) (si_Rtruly hS) ?_
      refine v_iload_n dX0_isFree_36 rfl rfl ?_
      refine v_aald (t := 4) dX0_isFree_37 (si_truly hS) (by decide) rfl (by first | assumption | omega) (si_trulyV hS (by first | assumption | omega)) ?_ (by decide)
      refine v_iload_n dX0_isFree_38 rfl rfl ?_
      refine v_iald dX0_isFree_39 (si_trulyK hS _ (by first | assumption | omega)) rfl (by first | assumption | omega) ?_
      rw [si_Dtruly hS _ (show k < 18 by omega) _ ht]
      refine v_iload_n dX0_isFree_40 rfl rfl ?_
      refine v_icmp_ne (tgt := 46) dX0_isFree_41 (by decide) (fun b41 => ?_) (fun b41 => ?_)
      · skip
        refine v_iinc dX0_isFree_46 rfl (by first | with_reducible exact nI_inc _ | exact rfl) (by decide) ?_
        refine v_goto (tgt := 19) dX0_isFree_49 (by decide) ?_
        have hI9 : ∀ c, c < k + 1 → ¬ A (2870 + 100 * c + t) = nI a := fun c hc => by
          rcases Nat.lt_or_ge c k with z | z
          · exact hI c z
          · obtain rfl : c = k := by omega
            exact b41
        exact v_loc2 (by repeat' (first | exact trivial | refine And.intro ?_ ?_ | exact rfl)) (IH (k + 1) ⟨hkn, hI9⟩ (by omega))
      · skip
        have hq9 : ¬ free_ A C nC sN S a t := fun z => z.2.1 k hkn b41
        refine v_iconst (v := 0) dX0_isFree_44 (by decide) ?_
        first | exact v_reti dX0_isFree_45 rfl (Pu_i (b2c_t hq9).symm) | exact v_reti dX0_isFree_45 rfl (Pu_i (b2c_f hq9).symm)
  · skip
    have hq9 : ¬ free_ A C nC sN S a t := fun z => b12 z.1
    refine v_iconst (v := 0) dX0_isFree_15 (by decide) ?_
    first | exact v_reti dX0_isFree_16 rfl (Pu_i (b2c_t hq9).symm) | exact v_reti dX0_isFree_16 rfl (Pu_i (b2c_f hq9).symm)

