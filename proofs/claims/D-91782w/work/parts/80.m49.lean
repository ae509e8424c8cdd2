set_option maxRecDepth 100000
theorem dv2 {a : Nat} (ha : a < 2 ^ 31) : nI a / 2 = nI (a / 2) := pk_div (d := 2) ha (by decide) (by decide)
theorem c_X0_vouches {G : Gv} {h : AH} {b nC sN : Nat} {A : Nat → Int32} {C : Nat → Nat → Int32} {S : Int32} (hq : XQ_ h b A C nC sN S) {p a t B : Nat} {tr : Int32} (hB : (¬ tr = 0 ∧ B = 2870) ∨ (tr = 0 ∧ B = 1070)) (hp : p < sN) (ha : a < 18) (ht : t < 100) : Ctr G 8 yX0_vouches cX0_vouches 6 (some .boolean) [.ref 30, .int (nI p), .int (nI a), .int (nI t), .int tr] h 0 0 (Pu h (.int (b2c (vch_ A C nC S B a p t)))) := by
  refine ctr_of (own := RX0) (nm := "vouches") (by decide) (Nat.le_of_ble_eq_true rfl) ?_
  have hq9 := hq
  obtain ⟨hX, hS, ⟨DC, cC, fC, hCA, hCE⟩, hv, hc⟩ := hq9
  have h39 := sv_s hv
  have h8 := hc.1
  refine v_iload_n dX0_vouches_0 rfl rfl ?_
  refine v_iconst (v := 2) dX0_vouches_1 (by decide) ?_
  refine v_idiv dX0_vouches_2 (by decide) ?_
  rw [dv2 (a := a) (by omega)]
  refine v_iload_n dX0_vouches_3 rfl rfl ?_
  refine v_icmp_ne (tgt := 9) dX0_vouches_4 (by decide) (fun b4 => ?_) (fun b4 => ?_)
  · skip
    have h4 : ¬ a / 2 = p := fun z => b4 ((nI_eq (by omega) (by omega)).mpr z)
    refine v_iload dX0_vouches_9 rfl ?_
    refine v_if_eq (tgt := 24) dX0_vouches_11 (by decide) (fun b11 => ?_) (fun b11 => ?_)
    · skip
      have hBe : B = 1070 := (hB.resolve_left (fun z => z.1 b11)).2
      refine v_aload_n dX0_vouches_24 rfl rfl ?_
      refine v_getR fX0_32 dX0_vouches_25 hX.1 hX.2.2.1 ?_
      refine v_getR fX0_153 dX0_vouches_28 (si_K hS) (si_Rseems hS) ?_
      refine v_astore dX0_vouches_31 (by decide) ?_
      refine v_aload dX0_vouches_33 rfl ?_
      refine v_iconst (v := 2) dX0_vouches_35 (by decide) ?_
      refine v_iload_n dX0_vouches_36 rfl rfl ?_
      refine v_imul dX0_vouches_37 ?_
      refine v_aald (t := 4) dX0_vouches_38 (si_seems hS) (by decide) (ix_mul (ix_lit _) rfl) (by first | assumption | omega) (si_seemsV hS (by first | assumption | omega)) ?_ (by decide)
      refine v_iload_n dX0_vouches_39 rfl rfl ?_
      refine v_iald dX0_vouches_40 (si_seemsK hS _ (by first | assumption | omega)) rfl (by first | assumption | omega) ?_
      first | rw [si_Dtruly hS _ (show 2 * p < 18 by omega) _ ht, ← hBe] | rw [si_Dseems hS _ (show 2 * p < 18 by omega) _ ht, ← hBe]
      refine v_iload_n dX0_vouches_41 rfl rfl ?_
      refine v_icmp_eq (tgt := 71) dX0_vouches_42 (by decide) (fun b42 => ?_) (fun b42 => ?_)
      · skip
        have hq9 := (show vch_ A C nC S B a p t from ⟨h4, Or.inl b42⟩)
        refine v_iconst (v := 1) dX0_vouches_71 (by decide) ?_
        refine v_goto (tgt := 76) dX0_vouches_72 (by decide) ?_
        first | exact v_reti dX0_vouches_76 rfl (Pu_i (b2c_t hq9).symm) | exact v_reti dX0_vouches_76 rfl (Pu_i (b2c_f hq9).symm)
      · skip
        refine v_aload dX0_vouches_45 rfl ?_
        refine v_iconst (v := 2) dX0_vouches_47 (by decide) ?_
        refine v_iload_n dX0_vouches_48 rfl rfl ?_
        refine v_imul dX0_vouches_49 ?_
        refine v_iconst (v := 1) dX0_vouches_50 (by decide) ?_
        refine v_iadd dX0_vouches_51 ?_
        refine v_aald (t := 4) dX0_vouches_52 (si_seems hS) (by decide) (ix_add (ix_mul (ix_lit _) rfl) (ix_lit _)) (by first | assumption | omega) (si_seemsV hS (by first | assumption | omega)) ?_ (by decide)
        refine v_iload_n dX0_vouches_53 rfl rfl ?_
        refine v_iald dX0_vouches_54 (si_seemsK hS _ (by first | assumption | omega)) rfl (by first | assumption | omega) ?_
        first | rw [si_Dtruly hS _ (show 2 * p + 1 < 18 by omega) _ ht, ← hBe] | rw [si_Dseems hS _ (show 2 * p + 1 < 18 by omega) _ ht, ← hBe]
        refine v_iload_n dX0_vouches_55 rfl rfl ?_
        refine v_icmp_eq (tgt := 71) dX0_vouches_56 (by decide) (fun b56 => ?_) (fun b56 => ?_)
        · skip
          have hq9 := (show vch_ A C nC S B a p t from ⟨h4, Or.inr (Or.inl b56)⟩)
          refine v_iconst (v := 1) dX0_vouches_71 (by decide) ?_
          refine v_goto (tgt := 76) dX0_vouches_72 (by decide) ?_
          first | exact v_reti dX0_vouches_76 rfl (Pu_i (b2c_t hq9).symm) | exact v_reti dX0_vouches_76 rfl (Pu_i (b2c_f hq9).symm)
        · skip
          refine v_aload_n dX0_vouches_59 rfl rfl ?_
          refine v_iload_n dX0_vouches_60 rfl rfl ?_
          refine v_iload_n dX0_vouches_61 rfl rfl ?_
          refine v_iconst (v := 2) dX0_vouches_62 (by decide) ?_
          refine v_idiv dX0_vouches_63 (by decide) ?_
          rw [dv2 (a := a) (by omega)]
          refine v_iload_n dX0_vouches_64 rfl rfl ?_
          refine v_pV mtX0_sees q765 q767 qs19 rfl (by decide) dX0_vouches_65 (c_X0_sees hq ?_ ?_ _) hX.1 (by first | decide | omega) ?_
          · omega
          · omega
          refine v_if_eq (tgt := 75) dX0_vouches_68 (by decide) (fun b68 => ?_) (fun b68 => ?_)
          · skip
            have hq9 := (show ¬ vch_ A C nC S B a p t from fun z => z.2.elim b42 (fun y => y.elim (fun x => b56 x) (fun x => b2c_0.mp b68 x)))
            refine v_iconst (v := 0) dX0_vouches_75 (by decide) ?_
            first | exact v_reti dX0_vouches_76 rfl (Pu_i (b2c_t hq9).symm) | exact v_reti dX0_vouches_76 rfl (Pu_i (b2c_f hq9).symm)
          · skip
            have hq9 := (show vch_ A C nC S B a p t from ⟨h4, Or.inr (Or.inr (b2c_n0.mp b68))⟩)
            refine v_iconst (v := 1) dX0_vouches_71 (by decide) ?_
            refine v_goto (tgt := 76) dX0_vouches_72 (by decide) ?_
            first | exact v_reti dX0_vouches_76 rfl (Pu_i (b2c_t hq9).symm) | exact v_reti dX0_vouches_76 rfl (Pu_i (b2c_f hq9).symm)
    · skip
      have hBe : B = 2870 := (hB.resolve_right (fun z => b11 z.1)).2
      refine v_aload_n dX0_vouches_14 rfl rfl ?_
      refine v_getR fX0_32 dX0_vouches_15 hX.1 hX.2.2.1 ?_
      refine v_getR fX0_156 dX0_vouches_18 (si_K hS) (si_Rtruly hS) ?_
      refine v_goto (tgt := 31) dX0_vouches_21 (by decide) ?_
      refine v_astore dX0_vouches_31 (by decide) ?_
      refine v_aload dX0_vouches_33 rfl ?_
      refine v_iconst (v := 2) dX0_vouches_35 (by decide) ?_
      refine v_iload_n dX0_vouches_36 rfl rfl ?_
      refine v_imul dX0_vouches_37 ?_
      refine v_aald (t := 4) dX0_vouches_38 (si_truly hS) (by decide) (ix_mul (ix_lit _) rfl) (by first | assumption | omega) (si_trulyV hS (by first | assumption | omega)) ?_ (by decide)
      refine v_iload_n dX0_vouches_39 rfl rfl ?_
      refine v_iald dX0_vouches_40 (si_trulyK hS _ (by first | assumption | omega)) rfl (by first | assumption | omega) ?_
      first | rw [si_Dtruly hS _ (show 2 * p < 18 by omega) _ ht, ← hBe] | rw [si_Dseems hS _ (show 2 * p < 18 by omega) _ ht, ← hBe]
      refine v_iload_n dX0_vouches_41 rfl rfl ?_
      refine v_icmp_eq (tgt := 71) dX0_vouches_42 (by decide) (fun b42 => ?_) (fun b42 => ?_)
      · skip
        have hq9 := (show vch_ A C nC S B a p t from ⟨h4, Or.inl b42⟩)
        refine v_iconst (v := 1) dX0_vouches_71 (by decide) ?_
        refine v_goto (tgt := 76) dX0_vouches_72 (by decide) ?_
        first | exact v_reti dX0_vouches_76 rfl (Pu_i (b2c_t hq9).symm) | exact v_reti dX0_vouches_76 rfl (Pu_i (b2c_f hq9).symm)
      · skip
        refine v_aload dX0_vouches_45 rfl ?_
        refine v_iconst (v := 2) dX0_vouches_47 (by decide) ?_
        refine v_iload_n dX0_vouches_48 rfl rfl ?_
        refine v_imul dX0_vouches_49 ?_
        refine v_iconst (v := 1) dX0_vouches_50 (by decide) ?_
        refine v_iadd dX0_vouches_51 ?_
        refine v_aald (t := 4) dX0_vouches_52 (si_truly hS) (by decide) (ix_add (ix_mul (ix_lit _) rfl) (ix_lit _)) (by first | assumption | omega) (si_trulyV hS (by first | assumption | omega)) ?_ (by decide)
        refine v_iload_n dX0_vouches_53 rfl rfl ?_
        refine v_iald dX0_vouches_54 (si_trulyK hS _ (by first | assumption | omega)) rfl (by first | assumption | omega) ?_
        first | rw [si_Dtruly hS _ (show 2 * p + 1 < 18 by omega) _ ht, ← hBe] | rw [si_Dseems hS _ (show 2 * p + 1 < 18 by omega) _ ht, ← hBe]
        refine v_iload_n dX0_vouches_55 rfl rfl ?_
        refine v_icmp_eq (tgt := 71) dX0_vouches_56 (by decide) (fun b56 => ?_) (fun b56 => ?_)
        · skip
          have hq9 := (show vch_ A C nC S B a p t from ⟨h4, Or.inr (Or.inl b56)⟩)
          refine v_iconst (v := 1) dX0_vouches_71 (by decide) ?_
          refine v_goto (tgt := 76) dX0_vouches_72 (by decide) ?_
          first | exact v_reti dX0_vouches_76 rfl (Pu_i (b2c_t hq9).symm) | exact v_reti dX0_vouches_76 rfl (Pu_i (b2c_f hq9).symm)
        · skip
          refine v_aload_n dX0_vouches_59 rfl rfl ?_
          refine v_iload_n dX0_vouches_60 rfl rfl ?_
          refine v_iload_n dX0_vouches_61 rfl rfl ?_
          refine v_iconst (v := 2) dX0_vouches_62 (by decide) ?_
          refine v_idiv dX0_vouches_63 (by decide) ?_
          rw [dv2 (a := a) (by omega)]
          refine v_iload_n dX0_vouches_64 rfl rfl ?_
          refine v_pV mtX0_sees q765 q767 qs19 rfl (by decide) dX0_vouches_65 (c_X0_sees hq ?_ ?_ _) hX.1 (by first | decide | omega) ?_
          · omega
          · omega
          refine v_if_eq (tgt := 75) dX0_vouches_68 (by decide) (fun b68 => ?_) (fun b68 => ?_)
          · skip
            have hq9 := (show ¬ vch_ A C nC S B a p t from fun z => z.2.elim b42 (fun y => y.elim (fun x => b56 x) (fun x => b2c_0.mp b68 x)))
            refine v_iconst (v := 0) dX0_vouches_75 (by decide) ?_
            first | exact v_reti dX0_vouches_76 rfl (Pu_i (b2c_t hq9).symm) | exact v_reti dX0_vouches_76 rfl (Pu_i (b2c_f hq9).symm)
          · skip
            have hq9 := (show vch_ A C nC S B a p t from ⟨h4, Or.inr (Or.inr (b2c_n0.mp b68))⟩)
            refine v_iconst (v := 1) dX0_vouches_71 (by decide) ?_
            refine v_goto (tgt := 76) dX0_vouches_72 (by decide) ?_
            first | exact v_reti dX0_vouches_76 rfl (Pu_i (b2c_t hq9).symm) | exact v_reti dX0_vouches_76 rfl (Pu_i (b2c_f hq9).symm)
  · skip
    have hq9 : ¬ vch_ A C nC S B a p t := fun z => z.1 ((nI_eq (by omega) (by omega)).mp b4)
    refine v_iconst (v := 0) dX0_vouches_7 (by decide) ?_
    first | exact v_reti dX0_vouches_8 rfl (Pu_i (b2c_t hq9).symm) | exact v_reti dX0_vouches_8 rfl (Pu_i (b2c_f hq9).symm)

theorem c_X0_vouchers {G : Gv} {h : AH} {b nC sN : Nat} {A : Nat → Int32} {C : Nat → Nat → Int32} {S : Int32} (hq : XQ_ h b A C nC sN S) {a t B : Nat} {tr : Int32} (hB : (¬ tr = 0 ∧ B = 2870) ∨ (tr = 0 ∧ B = 1070)) (ha : a < 18) (ht : t < 100) : Ctr G 9 yX0_vouchers cX0_vouchers 6 (some .int) [.ref 30, .int (nI a), .int (nI t), .int tr] h 0 0 (Pu h (.int (nI (vo_ A C nC sN S B a t)))) := by
  refine ctr_of (own := RX0) (nm := "vouchers") (by decide) (Nat.le_of_ble_eq_true rfl) ?_
  have hq9 := hq
  obtain ⟨hX, hS, ⟨DC, cC, fC, hCA, hCE⟩, hv, hc⟩ := hq9
  have h39 := sv_s hv
  have h8 := hc.1
  refine v_iconst (v := 0) dX0_vouchers_0 (by decide) ?_
  refine v_istore dX0_vouchers_1 (by decide) ?_
  refine v_iconst (v := 0) dX0_vouchers_3 (by decide) ?_
  refine v_istore dX0_vouchers_4 (by decide) ?_
  refine v_loc2 (by repeat' (first | exact trivial | refine And.intro ?_ ?_ | exact rfl)) (v_lp1 (fun (k : Nat) => sN - k) (fun (k : Nat) => k ≤ sN) (fun (k : Nat) => [(0, .ref 30), (1, .int (nI a)), (2, .int (nI t)), (3, .int tr), (4, .int (nI (sc_ (fun p => vch_ A C nC S B a p t) k))), (5, .int (nI k))]) (fun _ => []) (fun (k : Nat) => h) ?_ 0 (Nat.zero_le _))
  intro k hk IH
  refine v_iload dX0_vouchers_6 rfl ?_
  refine v_aload_n dX0_vouchers_8 rfl rfl ?_
  refine v_getI fX0_25 dX0_vouchers_9 hX.1 ?_
  rw [hX.2.1]
  refine v_icmp_ge (tgt := 46) dX0_vouchers_12 (by decide) (fun b12 => ?_) (fun b12 => ?_)
  · skip
    have hkn : sN ≤ k := (nI_leI (by omega) (by omega)).mp b12
    obtain rfl : k = sN := by omega
    refine v_iload dX0_vouchers_46 rfl ?_
    exact v_reti dX0_vouchers_48 rfl (Pu_i rfl)
  · skip
    have hkn : k < sN := Nat.lt_of_not_le (fun z => b12 ((nI_leI (by omega) (by omega)).mpr z))
    refine v_iload dX0_vouchers_15 rfl ?_
    refine v_aload_n dX0_vouchers_17 rfl rfl ?_
    refine v_iload dX0_vouchers_18 rfl ?_
    refine v_iload_n dX0_vouchers_20 rfl rfl ?_
    refine v_iload_n dX0_vouchers_21 rfl rfl ?_
    refine v_iload_n dX0_vouchers_22 rfl rfl ?_
    refine v_pV mtX0_vouches q761 q763 qs18 rfl (by decide) dX0_vouchers_23 (c_X0_vouches hq hB hkn ha ht) hX.1 (by first | decide | omega) ?_
    refine v_if_eq (tgt := 36) dX0_vouchers_26 (by decide) (fun b26 => ?_) (fun b26 => ?_)
    · skip
      have e9 : sc_ (fun p => vch_ A C nC S B a p t) (k + 1) = sc_ (fun p => vch_ A C nC S B a p t) k := sc_sf (b2c_0.mp b26)
      refine v_iconst (v := 0) dX0_vouchers_36 (by decide) ?_
      refine v_ior dX0_vouchers_37 ?_
      first | rw [show nI (sc_ (fun p => vch_ A C nC S B a p t) k) ||| 0 = nI (sc_ (fun p => vch_ A C nC S B a p t) (k + 1)) from by rw [e9, show (0 : Int32) = nI 0 from rfl, nI_or, Nat.or_zero]] | rw [or_sh (by omega), ← e9]
      refine v_istore dX0_vouchers_38 (by decide) ?_
      refine v_iinc dX0_vouchers_40 rfl (by first | with_reducible exact nI_inc _ | exact rfl) (by decide) ?_
      refine v_goto (tgt := 6) dX0_vouchers_43 (by decide) ?_
      exact v_loc2 (by repeat' (first | exact trivial | refine And.intro ?_ ?_ | exact rfl)) (IH (k + 1) hkn (by omega))
    · skip
      have e9 : sc_ (fun p => vch_ A C nC S B a p t) (k + 1) = sc_ (fun p => vch_ A C nC S B a p t) k ||| 2 ^ k := sc_st (b2c_n0.mp b26)
      refine v_iconst (v := 1) dX0_vouchers_29 (by decide) ?_
      refine v_iload dX0_vouchers_30 rfl ?_
      refine v_ishl dX0_vouchers_32 ?_
      refine v_goto (tgt := 37) dX0_vouchers_33 (by decide) ?_
      refine v_ior dX0_vouchers_37 ?_
      first | rw [show nI (sc_ (fun p => vch_ A C nC S B a p t) k) ||| 0 = nI (sc_ (fun p => vch_ A C nC S B a p t) (k + 1)) from by rw [e9, show (0 : Int32) = nI 0 from rfl, nI_or, Nat.or_zero]] | rw [or_sh (by omega), ← e9]
      refine v_istore dX0_vouchers_38 (by decide) ?_
      refine v_iinc dX0_vouchers_40 rfl (by first | with_reducible exact nI_inc _ | exact rfl) (by decide) ?_
      refine v_goto (tgt := 6) dX0_vouchers_43 (by decide) ?_
      exact v_loc2 (by repeat' (first | exact trivial | refine And.intro ?_ ?_ | exact rfl)) (IH (k + 1) hkn (by omega))

theorem c_X0_sawIt {G : Gv} {h : AH} {b nC sN : Nat} {A : Nat → Int32} {C : Nat → Nat → Int32} {S : Int32} (hq : XQ_ h b A C nC sN S) {p mv q : Nat} (hp : p < sN) (hm : mv < nMov A) (hE : MO_ h q A mv) : Ctr G 8 yX0_sawIt cX0_sawIt 3 (some .boolean) [.ref 30, .int (nI p), .ref q] h 0 0 (Pu h (.int (b2c (sw_ A C nC S mv p)))) := by
  refine ctr_of (own := RX0) (nm := "sawIt") (by decide) (Nat.le_of_ble_eq_true rfl) ?_
  have hq9 := hq
  obtain ⟨hX, hS, ⟨DC, cC, fC, hCA, hCE⟩, hv, hc⟩ := hq9
  have h39 := sv_s hv
  have h8 := hc.1
  obtain ⟨⟨a, ha, ea⟩, -, ⟨x, hx, ex⟩, ⟨t, ht, et⟩, ⟨y, hy, ey⟩⟩ := sv_move hv hm
  refine v_iload_n dX0_sawIt_0 rfl rfl ?_
  refine v_aload_n dX0_sawIt_1 rfl rfl ?_
  refine v_getI fX0_254 dX0_sawIt_2 (hE).1 ?_
  rw [hE.2.1, ea]
  refine v_iconst (v := 2) dX0_sawIt_5 (by decide) ?_
  refine v_idiv dX0_sawIt_6 (by decide) ?_
  rw [dv2 (a := a) (by omega)]
  refine v_icmp_eq (tgt := 46) dX0_sawIt_7 (by decide) (fun b7 => ?_) (fun b7 => ?_)
  · skip
    have hq9 : ¬ sw_ A C nC S mv p := fun z => z.1 (by rw [ea, nI_clamp (by omega)]; exact ((nI_eq (by omega) (by omega)).mp b7).symm)
    refine v_iconst (v := 0) dX0_sawIt_46 (by decide) ?_
    first | exact v_reti dX0_sawIt_47 rfl (Pu_i (b2c_t hq9).symm) | exact v_reti dX0_sawIt_47 rfl (Pu_i (b2c_f hq9).symm)
  · skip
    have h7 : ¬ (A (4680 + 5 * mv)).toNatClampNeg / 2 = p := fun z => b7 (by rw [ea, nI_clamp (by omega)] at z; rw [z])
    have etc : (A (4680 + 5 * mv + 3)).toNatClampNeg = t := by rw [et, nI_clamp (by omega)]
    refine v_aload_n dX0_sawIt_10 rfl rfl ?_
    refine v_iload_n dX0_sawIt_11 rfl rfl ?_
    refine v_aload_n dX0_sawIt_12 rfl rfl ?_
    refine v_getI fX0_257 dX0_sawIt_13 (hE).1 ?_
    rw [hE.2.2.2.1]
    refine v_aload_n dX0_sawIt_16 rfl rfl ?_
    refine v_getI fX0_178 dX0_sawIt_17 (hE).1 ?_
    rw [hE.2.2.2.2.2, et]
    refine v_pV mtX0_sees q765 q767 qs19 rfl (by decide) dX0_sawIt_20 (c_X0_sees hq ?_ ?_ _) hX.1 (by first | decide | omega) ?_
    · omega
    · omega
    refine v_if_ne (tgt := 42) dX0_sawIt_23 (by decide) (fun b23 => ?_) (fun b23 => ?_)
    · skip
      have hq9 : sw_ A C nC S mv p := ⟨h7, Or.inr (by rw [etc]; exact b2c_n0.mp b23)⟩
      refine v_iconst (v := 1) dX0_sawIt_42 (by decide) ?_
      refine v_goto (tgt := 47) dX0_sawIt_43 (by decide) ?_
      first | exact v_reti dX0_sawIt_47 rfl (Pu_i (b2c_t hq9).symm) | exact v_reti dX0_sawIt_47 rfl (Pu_i (b2c_f hq9).symm)
    · skip
      refine v_aload_n dX0_sawIt_26 rfl rfl ?_
      refine v_iload_n dX0_sawIt_27 rfl rfl ?_
      refine v_aload_n dX0_sawIt_28 rfl rfl ?_
      refine v_getI fX0_260 dX0_sawIt_29 (hE).1 ?_
      rw [hE.2.2.2.2.1]
      refine v_aload_n dX0_sawIt_32 rfl rfl ?_
      refine v_getI fX0_178 dX0_sawIt_33 (hE).1 ?_
      rw [hE.2.2.2.2.2, et]
      refine v_pV mtX0_sees q765 q767 qs19 rfl (by decide) dX0_sawIt_36 (c_X0_sees hq ?_ ?_ _) hX.1 (by first | decide | omega) ?_
      · omega
      · omega
      refine v_if_eq (tgt := 46) dX0_sawIt_39 (by decide) (fun b39 => ?_) (fun b39 => ?_)
      · skip
        have hq9 : ¬ sw_ A C nC S mv p := fun z => z.2.elim (fun y => b2c_0.mp b39 (by rw [etc] at y; exact y)) (fun y => by first | exact b23 (b2c_t (by rw [etc] at y; exact y)) | exact b2c_0.mp b23 (by rw [etc] at y; exact y))
        refine v_iconst (v := 0) dX0_sawIt_46 (by decide) ?_
        first | exact v_reti dX0_sawIt_47 rfl (Pu_i (b2c_t hq9).symm) | exact v_reti dX0_sawIt_47 rfl (Pu_i (b2c_f hq9).symm)
      · skip
        have hq9 : sw_ A C nC S mv p := ⟨h7, Or.inl (by rw [etc]; exact b2c_n0.mp b39)⟩
        refine v_iconst (v := 1) dX0_sawIt_42 (by decide) ?_
        refine v_goto (tgt := 47) dX0_sawIt_43 (by decide) ?_
        first | exact v_reti dX0_sawIt_47 rfl (Pu_i (b2c_t hq9).symm) | exact v_reti dX0_sawIt_47 rfl (Pu_i (b2c_f hq9).symm)

noncomputable def an_saw (A : Nat → Int32) (C : Nat → Nat → Int32) (nC sN : Nat) (m p : Int32) : Int32 := cf_ ((0 ≤ m ∧ m < A 4882) ∧ (0 ≤ p ∧ p < nI sN) ∧ ¬ (A (4680 + 5 * m.toNatClampNeg)).toNatClampNeg / 2 = p.toNatClampNeg) (b2c (sw_ A C nC 0 m.toNatClampNeg p.toNatClampNeg)) (-1)
noncomputable def an_at (A : Nat → Int32) (C : Nat → Nat → Int32) (nC sN : Nat) (w x s : Int32) : Int32 :=
  cf_ (¬ ((0 ≤ s ∧ s ≤ 99) ∧ (0 ≤ w ∧ w ≤ 5))) (-1) (cf_ (w = 0) (A s.toNatClampNeg) (cf_ (w = 1 ∨ w = 5) (cf_ (¬ (0 ≤ x ∧ x < nI sN)) (-1) (cf_ (w = 1) (eyes_ A C nC 0 x.toNatClampNeg s.toNatClampNeg) (b2c (¬ lb_ A x.toNatClampNeg s.toNatClampNeg (nLed A) = -1))))
    (cf_ (¬ (0 ≤ x ∧ x < 2 * nI sN)) (-1) (cf_ (w = 2) (b2c (free_ A C nC sN 0 x.toNatClampNeg s.toNatClampNeg)) (cf_ (w = 3) (A (1070 + 100 * x.toNatClampNeg + s.toNatClampNeg)) (A (2870 + 100 * x.toNatClampNeg + s.toNatClampNeg)))))))
noncomputable def an_vouch (A : Nat → Int32) (C : Nat → Nat → Int32) (nC sN : Nat) (a s tr : Int32) : Int32 := cf_ ((0 ≤ a ∧ a < 2 * nI sN) ∧ (0 ≤ s ∧ s ≤ 99)) (nI (vo_ A C nC sN 0 (cf_ (tr = 0) 1070 2870) a.toNatClampNeg s.toNatClampNeg)) (-1)
noncomputable def an_gap (A : Nat → Int32) (C : Nat → Nat → Int32) (nC sN : Nat) (a tr x : Int32) : Int32 :=
  cf_ ((0 ≤ a ∧ a < 2 * nI sN) ∧ (0 ≤ x ∧ x ≤ 3)) (cf_ (x = 0) (nI (gc_ (fun t => vo_ A C nC sN 0 (cf_ (tr = 0) 1070 2870) a.toNatClampNeg t = 0) 100))
    (cf_ (x = 1) (gf_ (fun t => vo_ A C nC sN 0 (cf_ (tr = 0) 1070 2870) a.toNatClampNeg t = 0) 100)
    (cf_ (x = 2) (nI (gb_ (fun t => vo_ A C nC sN 0 (cf_ (tr = 0) 1070 2870) a.toNatClampNeg t = 0) 100))
    (nI (gc_ (fun t => vo_ A C nC sN 0 2870 a.toNatClampNeg t = 0 ∧ ¬ vo_ A C nC sN 0 1070 a.toNatClampNeg t = 0) 100))))) (-1)
noncomputable def an_where (A : Nat → Int32) (t s : Int32) : Int32 := cf_ ((0 ≤ t ∧ t < A 4881) ∧ (s = -1 ∨ (0 ≤ s ∧ s ≤ 99))) (wh_ A t.toNatClampNeg (s + 1) (nMov A)) (-1)
theorem tr_B (tr : Int32) : (¬ tr = 0 ∧ cf_ (tr = 0) 1070 2870 = 2870) ∨ (tr = 0 ∧ cf_ (tr = 0) 1070 2870 = 1070) := by
  by_cases z : tr = 0
  · exact Or.inr ⟨z, cf_t z⟩
  · exact Or.inl ⟨z, cf_f z⟩
theorem le_sc {k : Nat} {s : Int32} (hk : k < 100) (hs : s = -1 ∨ (0 ≤ s ∧ s ≤ 99)) : nI k ≤ s ↔ nI k < s + 1 := by
  rcases hs with rfl | hs
  · rw [show (-1 : Int32) + 1 = nI 0 from rfl]
    constructor
    · intro z; exact absurd (Int32.le_trans (show (0 : Int32) ≤ nI k from Int32.not_lt.mp (nI_pos (by omega))) z) (by decide)
    · intro z; exact absurd z (nI_pos (by omega))
  · obtain ⟨j, hj, rfl⟩ := nI_rngE (n := 99) hs (by decide)
    rw [nI_1, nI_leI (by omega) (by omega), nI_ltI (by omega) (by omega)]; omega
theorem c_X0_where {G : Gv} {h : AH} {b nC sN : Nat} {A : Nat → Int32} {C : Nat → Nat → Int32} (hq : XQ_ h b A C nC sN 0) (t s : Int32) : Ctr G 5 yX0_where cX0_where 3 (some .int) [.ref 30, .int t, .int s] h 0 0 (Pu h (.int (an_where A t s))) := by
  refine ctr_of (own := RX0) (nm := "where") (by decide) (Nat.le_of_ble_eq_true rfl) ?_
  have hq9 := hq
  obtain ⟨hX, hS, ⟨DC, cC, fC, hCA, hCE⟩, hv, hc⟩ := hq9
  have h39 := sv_s hv
  have h8 := hc.1
  refine v_aload_n dX0_where_0 rfl rfl ?_
  refine v_iload_n dX0_where_1 rfl rfl ?_
  refine v_pV mtX0_isThing q597 q599 qs9 rfl (by decide) dX0_where_2 (c_X0_isThing hX hS (sv_laid hv).2 (sv_laid hv).1 _) hX.1 (by first | decide | omega) ?_
  refine v_if_eq (tgt := 32) dX0_where_5 (by decide) (fun b5 => ?_) (fun b5 => ?_)
  · skip
    simp only [b2i_0, b2i_n0, b2c_0, b2c_n0, Classical.not_not] at b5
    refine v_iconst (v := (-1)) dX0_where_32 (by decide) ?_
    refine v_reti dX0_where_33 rfl (Pu_i ?_)
    unfold an_where
    first | (rw [cf_t ⟨hts, hss⟩, nI_clamp (by omega)]) | (rw [cf_f (by grind)])
  · skip
    simp only [b2i_0, b2i_n0, b2c_0, b2c_n0, Classical.not_not] at b5
    refine v_iload_n dX0_where_8 rfl rfl ?_
    refine v_iconst (v := (-1)) dX0_where_9 (by decide) ?_
    refine v_icmp_eq (tgt := 20) dX0_where_10 (by decide) (fun b10 => ?_) (fun b10 => ?_)
    · skip
      have hts : (0 ≤ t ∧ t < A 4881) := by grind
      have hss : s = -1 ∨ (0 ≤ s ∧ s ≤ 99) := by grind
      have hl8 := sv_laid hv
      have hts9 := hts
      rw [hl8.2] at hts9
      obtain ⟨th, hth, rfl⟩ := nI_rng hts9 (by omega)
      refine v_aload_n dX0_where_20 rfl rfl ?_
      refine v_getR fX0_32 dX0_where_21 hX.1 hX.2.2.1 ?_
      refine v_iload_n dX0_where_24 rfl rfl ?_
      refine v_iload_n dX0_where_25 rfl rfl ?_
      refine v_pV mtX1_where q601 q602 q603 rfl (by decide) dX0_where_26 (c_X1_where (th := th) (s1 := s + 1) hS hv (by omega) (fun k hk => by obtain ⟨j, hj, ej⟩ := (sv_move hv hk).2.2.2.1; rw [ej]; exact le_sc hj hss)) (si_K hS) (by first | decide | omega) ?_
      refine v_goto (tgt := 33) dX0_where_29 (by decide) ?_
      refine v_reti dX0_where_33 rfl (Pu_i ?_)
      unfold an_where
      first | (rw [cf_t ⟨hts, hss⟩, nI_clamp (by omega)]) | (rw [cf_f (by grind)])
    · skip
      refine v_iload_n dX0_where_13 rfl rfl ?_
      refine v_pS mtX0_isSecond q461 q462 dX0_where_14 (c_X0_isSecond _) (by first | decide | omega) ?_
      refine v_if_eq (tgt := 32) dX0_where_17 (by decide) (fun b17 => ?_) (fun b17 => ?_)
      · skip
        simp only [b2i_0, b2i_n0, b2c_0, b2c_n0, Classical.not_not] at b17
        refine v_iconst (v := (-1)) dX0_where_32 (by decide) ?_
        refine v_reti dX0_where_33 rfl (Pu_i ?_)
        unfold an_where
        first | (rw [cf_t ⟨hts, hss⟩, nI_clamp (by omega)]) | (rw [cf_f (by grind)])
      · skip
        simp only [b2i_0, b2i_n0, b2c_0, b2c_n0, Classical.not_not] at b17
        have hts : (0 ≤ t ∧ t < A 4881) := by grind
        have hss : s = -1 ∨ (0 ≤ s ∧ s ≤ 99) := by grind
        have hl8 := sv_laid hv
        have hts9 := hts
        rw [hl8.2] at hts9
        obtain ⟨th, hth, rfl⟩ := nI_rng hts9 (by omega)
        refine v_aload_n dX0_where_20 rfl rfl ?_
        refine v_getR fX0_32 dX0_where_21 hX.1 hX.2.2.1 ?_
        refine v_iload_n dX0_where_24 rfl rfl ?_
        refine v_iload_n dX0_where_25 rfl rfl ?_
        refine v_pV mtX1_where q601 q602 q603 rfl (by decide) dX0_where_26 (c_X1_where (th := th) (s1 := s + 1) hS hv (by omega) (fun k hk => by obtain ⟨j, hj, ej⟩ := (sv_move hv hk).2.2.2.1; rw [ej]; exact le_sc hj hss)) (si_K hS) (by first | decide | omega) ?_
        refine v_goto (tgt := 33) dX0_where_29 (by decide) ?_
        refine v_reti dX0_where_33 rfl (Pu_i ?_)
        unfold an_where
        first | (rw [cf_t ⟨hts, hss⟩, nI_clamp (by omega)]) | (rw [cf_f (by grind)])

theorem c_X0_saw {G : Gv} {h : AH} {b nC sN : Nat} {A : Nat → Int32} {C : Nat → Nat → Int32} (hq : XQ_ h b A C nC sN 0) (m p : Int32) : Ctr G 9 yX0_saw cX0_saw 4 (some .int) [.ref 30, .int m, .int p] h 0 0 (Pu h (.int (an_saw A C nC sN m p))) := by
  refine ctr_of (own := RX0) (nm := "saw") (by decide) (Nat.le_of_ble_eq_true rfl) ?_
  have hq9 := hq
  obtain ⟨hX, hS, ⟨DC, cC, fC, hCA, hCE⟩, hv, hc⟩ := hq9
  have h39 := sv_s hv
  have h8 := hc.1
  have hm40 := sv_mov hv
  obtain ⟨DM, cM, fM, hMA, hME⟩ := si_moves hS
  refine v_iload_n dX0_saw_0 rfl rfl ?_
  refine v_i2l dX0_saw_1 ?_
  refine v_lconst (v := (0 : Int32).toInt64) dX0_saw_2 (by decide) ?_
  refine v_aload_n dX0_saw_3 rfl rfl ?_
  refine v_getR fX0_32 dX0_saw_4 hX.1 hX.2.2.1 ?_
  refine v_getR fX0_159 dX0_saw_7 (si_K hS) (si_Rmoves hS) ?_
  refine v_pV mtJ2_size q481 q482 q483 rfl (by decide) dX0_saw_10 (c_J2_size hMA) (hMA).1 (by first | decide | omega) ?_
  refine v_iconst (v := 1) dX0_saw_13 (by decide) ?_
  refine v_isub dX0_saw_14 ?_
  refine v_i2l dX0_saw_15 ?_
  refine v_pS mtX0_in q162 q163 dX0_saw_16 (c_X0_in _ _ _) (by first | decide | omega) ?_
  rw [show b2i (0 ≤ m ∧ m ≤ nI (nMov A) - 1) = b2i (0 ≤ m ∧ m < A 4882) from b2i_c (by rw [hm40.2]; exact in_pred (by omega))]
  refine v_if_eq (tgt := 30) dX0_saw_19 (by decide) (fun b19 => ?_) (fun b19 => ?_)
  · skip
    simp only [b2i_0, b2i_n0, b2c_0, b2c_n0, Classical.not_not] at b19
    refine v_iconst (v := (-1)) dX0_saw_30 (by decide) ?_
    refine v_reti dX0_saw_31 rfl (Pu_i ?_)
    unfold an_saw
    first | (rw [cf_t ⟨⟨hm9.1, by rw [hm40.2]; exact hm9.2⟩, hp9, by rw [nI_clamp (by omega), nI_clamp (by omega), ea, nI_clamp (by omega)]; exact b54⟩, nI_clamp (by omega), nI_clamp (by omega)]; first | exact (b2c_t b67).symm | exact (b2c_f b67).symm) | (rw [cf_f (fun z => z.2.2 (by rw [nI_clamp (by omega), nI_clamp (by omega), ea, nI_clamp (by omega)]; exact b54))]) | (rw [cf_f (by grind)])
  · skip
    simp only [b2i_0, b2i_n0, b2c_0, b2c_n0, Classical.not_not] at b19
    refine v_aload_n dX0_saw_22 rfl rfl ?_
    refine v_iload_n dX0_saw_23 rfl rfl ?_
    refine v_pV mtX0_isPerson q450 q452 qs1 rfl (by decide) dX0_saw_24 (c_X0_isPerson hX h39.2 _) hX.1 (by first | decide | omega) ?_
    refine v_if_ne (tgt := 32) dX0_saw_27 (by decide) (fun b27 => ?_) (fun b27 => ?_)
    · skip
      simp only [b2i_0, b2i_n0, b2c_0, b2c_n0, Classical.not_not] at b27
      have hp9 := (show 0 ≤ p ∧ p < nI sN from by grind)
      have hm9 := (show 0 ≤ m ∧ m < A 4882 from by grind)
      rw [hm40.2] at hm9
      obtain ⟨pn, hpn, rfl⟩ := nI_rng hp9 (by omega)
      obtain ⟨mn, hmn, rfl⟩ := nI_rng hm9 (by omega)
      have hE := hME mn hmn
      obtain ⟨⟨a, ha, ea⟩, -⟩ := sv_move hv hmn
      refine v_aload_n dX0_saw_32 rfl rfl ?_
      refine v_getR fX0_32 dX0_saw_33 hX.1 hX.2.2.1 ?_
      refine v_getR fX0_159 dX0_saw_36 (si_K hS) (si_Rmoves hS) ?_
      refine v_iload_n dX0_saw_39 rfl rfl ?_
      refine v_pV mtJ2_get q621 q607 q608 rfl (by decide) dX0_saw_40 (c_J2_get hMA rfl hmn) (hMA).1 (by first | decide | omega) ?_
      refine v_castS (hE).1 (by decide) rfl q622 dX0_saw_43 ?_
      refine v_astore_n dX0_saw_46 rfl (by decide) ?_
      refine v_aload_n dX0_saw_47 rfl rfl ?_
      refine v_getI fX0_254 dX0_saw_48 (hE).1 ?_
      rw [hE.2.1, ea]
      refine v_iconst (v := 2) dX0_saw_51 (by decide) ?_
      refine v_idiv dX0_saw_52 (by decide) ?_
      rw [dv2 (a := a) (by omega)]
      refine v_iload_n dX0_saw_53 rfl rfl ?_
      refine v_icmp_ne (tgt := 61) dX0_saw_54 (by decide) (fun b54 => ?_) (fun b54 => ?_)
      · skip
        rw [nI_eq (by omega) (by omega)] at b54
        refine v_aload_n dX0_saw_61 rfl rfl ?_
        refine v_iload_n dX0_saw_62 rfl rfl ?_
        refine v_aload_n dX0_saw_63 rfl rfl ?_
        refine v_pV mtX0_sawIt q777 q779 qs20 rfl (by decide) dX0_saw_64 (c_X0_sawIt hq hpn hmn hE) hX.1 (by first | decide | omega) ?_
        refine v_if_eq (tgt := 74) dX0_saw_67 (by decide) (fun b67 => ?_) (fun b67 => ?_)
        · skip
          simp only [b2i_0, b2i_n0, b2c_0, b2c_n0, Classical.not_not] at b67
          refine v_iconst (v := 0) dX0_saw_74 (by decide) ?_
          refine v_reti dX0_saw_75 rfl (Pu_i ?_)
          unfold an_saw
          first | (rw [cf_t ⟨⟨hm9.1, by rw [hm40.2]; exact hm9.2⟩, hp9, by rw [nI_clamp (by omega), nI_clamp (by omega), ea, nI_clamp (by omega)]; exact b54⟩, nI_clamp (by omega), nI_clamp (by omega)]; first | exact (b2c_t b67).symm | exact (b2c_f b67).symm) | (rw [cf_f (fun z => z.2.2 (by rw [nI_clamp (by omega), nI_clamp (by omega), ea, nI_clamp (by omega)]; exact b54))]) | (rw [cf_f (by grind)])
        · skip
          simp only [b2i_0, b2i_n0, b2c_0, b2c_n0, Classical.not_not] at b67
          refine v_iconst (v := 1) dX0_saw_70 (by decide) ?_
          refine v_goto (tgt := 75) dX0_saw_71 (by decide) ?_
          refine v_reti dX0_saw_75 rfl (Pu_i ?_)
          unfold an_saw
          first | (rw [cf_t ⟨⟨hm9.1, by rw [hm40.2]; exact hm9.2⟩, hp9, by rw [nI_clamp (by omega), nI_clamp (by omega), ea, nI_clamp (by omega)]; exact b54⟩, nI_clamp (by omega), nI_clamp (by omega)]; first | exact (b2c_t b67).symm | exact (b2c_f b67).symm) | (rw [cf_f (fun z => z.2.2 (by rw [nI_clamp (by omega), nI_clamp (by omega), ea, nI_clamp (by omega)]; exact b54))]) | (rw [cf_f (by grind)])
      · skip
        rw [nI_eq (by omega) (by omega)] at b54
        refine v_iconst (v := (-1)) dX0_saw_57 (by decide) ?_
        refine v_goto (tgt := 75) dX0_saw_58 (by decide) ?_
        refine v_reti dX0_saw_75 rfl (Pu_i ?_)
        unfold an_saw
        first | (rw [cf_t ⟨⟨hm9.1, by rw [hm40.2]; exact hm9.2⟩, hp9, by rw [nI_clamp (by omega), nI_clamp (by omega), ea, nI_clamp (by omega)]; exact b54⟩, nI_clamp (by omega), nI_clamp (by omega)]; first | exact (b2c_t b67).symm | exact (b2c_f b67).symm) | (rw [cf_f (fun z => z.2.2 (by rw [nI_clamp (by omega), nI_clamp (by omega), ea, nI_clamp (by omega)]; exact b54))]) | (rw [cf_f (by grind)])
    · skip
      simp only [b2i_0, b2i_n0, b2c_0, b2c_n0, Classical.not_not] at b27
      refine v_iconst (v := (-1)) dX0_saw_30 (by decide) ?_
      refine v_reti dX0_saw_31 rfl (Pu_i ?_)
      unfold an_saw
      first | (rw [cf_t ⟨⟨hm9.1, by rw [hm40.2]; exact hm9.2⟩, hp9, by rw [nI_clamp (by omega), nI_clamp (by omega), ea, nI_clamp (by omega)]; exact b54⟩, nI_clamp (by omega), nI_clamp (by omega)]; first | exact (b2c_t b67).symm | exact (b2c_f b67).symm) | (rw [cf_f (fun z => z.2.2 (by rw [nI_clamp (by omega), nI_clamp (by omega), ea, nI_clamp (by omega)]; exact b54))]) | (rw [cf_f (by grind)])

theorem c_X0_vouch {G : Gv} {h : AH} {b nC sN : Nat} {A : Nat → Int32} {C : Nat → Nat → Int32} (hq : XQ_ h b A C nC sN 0) (a s tr : Int32) : Ctr G 10 yX0_vouch cX0_vouch 4 (some .int) [.ref 30, .int a, .int s, .int tr] h 0 0 (Pu h (.int (an_vouch A C nC sN a s tr))) := by
  refine ctr_of (own := RX0) (nm := "vouch") (by decide) (Nat.le_of_ble_eq_true rfl) ?_
  have hq9 := hq
  obtain ⟨hX, hS, ⟨DC, cC, fC, hCA, hCE⟩, hv, hc⟩ := hq9
  have h39 := sv_s hv
  refine v_aload_n dX0_vouch_0 rfl rfl ?_
  refine v_iload_n dX0_vouch_1 rfl rfl ?_
  refine v_pV mtX0_isHand q581 q583 qs7 rfl (by decide) dX0_vouch_2 (c_X0_isHand hX h39.2 _) hX.1 (by first | decide | omega) ?_
  refine v_if_eq (tgt := 25) dX0_vouch_5 (by decide) (fun b5 => ?_) (fun b5 => ?_)
  · skip
    simp only [b2i_0, b2i_n0, b2c_0, b2c_n0, Classical.not_not] at b5
    refine v_iconst (v := (-1)) dX0_vouch_25 (by decide) ?_
    refine v_reti dX0_vouch_26 rfl (Pu_i ?_)
    unfold an_vouch
    first | (rw [cf_t (show (0 ≤ nI an ∧ nI an < 2 * nI sN) ∧ (0 ≤ nI sn ∧ nI sn ≤ 99) from ⟨b5, b12⟩), nI_clamp (by omega), nI_clamp (by omega)]) | (rw [cf_f (by grind)])
  · skip
    simp only [b2i_0, b2i_n0, b2c_0, b2c_n0, Classical.not_not] at b5
    refine v_iload_n dX0_vouch_8 rfl rfl ?_
    refine v_pS mtX0_isSecond q461 q462 dX0_vouch_9 (c_X0_isSecond _) (by first | decide | omega) ?_
    refine v_if_eq (tgt := 25) dX0_vouch_12 (by decide) (fun b12 => ?_) (fun b12 => ?_)
    · skip
      simp only [b2i_0, b2i_n0, b2c_0, b2c_n0, Classical.not_not] at b12
      refine v_iconst (v := (-1)) dX0_vouch_25 (by decide) ?_
      refine v_reti dX0_vouch_26 rfl (Pu_i ?_)
      unfold an_vouch
      first | (rw [cf_t (show (0 ≤ nI an ∧ nI an < 2 * nI sN) ∧ (0 ≤ nI sn ∧ nI sn ≤ 99) from ⟨b5, b12⟩), nI_clamp (by omega), nI_clamp (by omega)]) | (rw [cf_f (by grind)])
    · skip
      simp only [b2i_0, b2i_n0, b2c_0, b2c_n0, Classical.not_not] at b12
      have ha9 := b5
      rw [nI_2] at ha9
      obtain ⟨an, han, rfl⟩ := nI_rng ha9 (by omega)
      obtain ⟨sn, hsn, rfl⟩ := nI_rngE (n := 99) b12 (by decide)
      refine v_aload_n dX0_vouch_15 rfl rfl ?_
      refine v_iload_n dX0_vouch_16 rfl rfl ?_
      refine v_iload_n dX0_vouch_17 rfl rfl ?_
      refine v_iload_n dX0_vouch_18 rfl rfl ?_
      refine v_pV mtX0_vouchers q757 q759 qs17 rfl (by decide) dX0_vouch_19 (c_X0_vouchers (a := an) (t := sn) (B := cf_ (tr = 0) 1070 2870) hq (tr_B tr) (by omega) (by omega)) hX.1 (by first | decide | omega) ?_
      refine v_goto (tgt := 26) dX0_vouch_22 (by decide) ?_
      refine v_reti dX0_vouch_26 rfl (Pu_i ?_)
      unfold an_vouch
      first | (rw [cf_t (show (0 ≤ nI an ∧ nI an < 2 * nI sN) ∧ (0 ≤ nI sn ∧ nI sn ≤ 99) from ⟨b5, b12⟩), nI_clamp (by omega), nI_clamp (by omega)]) | (rw [cf_f (by grind)])

