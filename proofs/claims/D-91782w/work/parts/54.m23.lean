set_option maxRecDepth 100000
def op_ (h : AH) (sN nC c th g s e w p : Nat) : Prop := fiv_ (hp_I h 243) (ct_ h) nC sN 0 h w p 0 th g s e = -1 ∧ ¬ fiv_ (hp_I h 243) (ct_ h) nC sN (nI (2 ^ c)) h w p 0 th g s e = -1
noncomputable def sp_opens (h : AH) (sN nC nW : Nat) (c th g s e : Int32) (hx : AH) : Int32 × AH :=
  (cf_ ((0 ≤ c ∧ c < hp_I h 241 48) ∧ tsk_ h th g s e) (nI (tc_ (fun w p => op_ h sN nC c.toNatClampNeg th.toNatClampNeg g.toNatClampNeg s.toNatClampNeg e.toNatClampNeg w p) sN nW)) (-1), hx)
set_option maxHeartbeats 1000000 in
theorem c_X4_opens {G : Gv} {h : AH} {sN nC : Nat} (hS : MS_ h sN nC) {nW : Nat} (hW : WX_ h nW) (c th g s e : Int32) : Ctr G 8 yX4_opens cX4_opens 9 (some .int) [.ref 241, .int c, .int th, .int g, .int s, .int e] h 0 0 (Pf h (sp_opens h sN nC nW c th g s e)) := by
  refine ctr_of (own := RX4) (nm := "opens") (by decide) (Nat.le_of_ble_eq_true rfl) ?_
  have hm := hS.1
  have hS0 := MS_th hS
  have hs := hS.2.1
  have hv := hS.2.2.1
  have h3 := sv_s hv
  have hpt := fp_th h
  have hC8 := hS.2.2.2.2.1
  have hCt : hp_I (th_ h) 241 48 = nI nC := hS.2.2.2.1
  have hCh : hp_I h 241 48 = nI nC := hS.2.2.2.1
  have hle := le_pred (x := c) (n := nC) (by omega)
  have hW2 := hW.2.1
  refine v_aload_n dX4_opens_0 rfl rfl ?_
  refine v_iconst (v := 0) dX4_opens_1 (by decide) ?_
  refine v_thr fX4_1 dX4_opens_2 hm ?_
  have hm := MI_th hm
  refine v_cut 36 ((0 ≤ c ∧ c < hp_I h 241 48) ∧ tsk_ h th g s e) (fun hz36 => ?_) (fun hc36 => ?_)
  · skip
    obtain ⟨q1, q4, q5, q6⟩ := hz36
    rw [hCh] at q1
    rw [(sv_laid hv).2] at q4
    rw [hs] at q5
    have hlaid := (sv_laid hv).1
    obtain ⟨thn, hthn, rfl⟩ := nI_rng q4 (by omega)
    obtain ⟨gn, hgn, rfl⟩ := nI_rngE q5 (by omega)
    obtain ⟨sn, en, hse, hen, rfl, rfl⟩ := sec2 q6
    obtain ⟨cn, hcn, rfl⟩ := nI_rng q1 (by omega)
    refine v_aload_n dX4_opens_36 rfl rfl ?_
    refine v_iconst (v := nI 0) dX4_opens_37 (by decide) ?_
    refine v_iload_n dX4_opens_38 rfl rfl ?_
    refine v_iload_n dX4_opens_39 rfl rfl ?_
    refine v_iload dX4_opens_40 rfl ?_
    refine v_iload dX4_opens_42 rfl ?_
    refine v_zV mtX4_fitsAll q2174 q2176 qs114 rfl (by decide) dX4_opens_44 (c_X4_fitsAll (th := thn) (g := gn) (s := sn) (e := en) hS0 (WX_th hW) _ hthn (by omega) hse (by omega)) (mK_obj hm) (by decide) (fun r44 h44 q44 z44 => ?_)
    obtain ⟨rfl, ⟨h2, hfx1, hfz1⟩, hfit⟩ := q44
    have hm : MI h44 := fz_m hfz1 (fx_MS hS0 hfx1).1
    have hSz : MS_ h44 sN nC := fz_MS (fx_MS hS0 hfx1) hfz1
    have hWz : WX_ h44 nW := fz_WX (fx_WX (WX_th hW) hfx1) hfz1
    have e33 : hp_I h44 243 = hp_I h 243 := ((hfz1.2.2.2.2.1 243 (by decide) (by decide)).trans (fx_33 hfx1)).trans th_33
    have ect : ct_ h44 = ct_ h := ((fz_ct hfz1).trans (fx_ct hfx1)).trans th_ct
    refine v_aload_n dX4_opens_47 rfl rfl ?_
    refine v_iconst (v := 1) dX4_opens_48 (by decide) ?_
    refine v_iload_n dX4_opens_49 rfl rfl ?_
    refine v_ishl dX4_opens_50 ?_
    rw [sh_1 (by omega)]
    refine v_zV mtX4_lays q1855 q1857 qs65 rfl (by decide) dX4_opens_51 (c_lays hSz _) (mK_obj hm) (by decide) (fun r51 h51 q51 z51 => ?_)
    obtain ⟨rfl, hL0⟩ := q51
    have hLd : LD_ (hp_I h 243) (ct_ h) nC sN (nI (2 ^ cn)) h51 := by
     have z := LY_LD hSz hL0
     rw [e33, ect] at z
     exact z
    have hm : MI h51 := hLd.1
    have hfx2 := fx_fr hL0.1
    have hWL := fx_WX hWz hfx2
    refine v_iconst (v := 0) dX4_opens_54 (by decide) ?_
    refine v_istore dX4_opens_55 (by decide) ?_
    refine v_iconst (v := 0) dX4_opens_57 (by decide) ?_
    refine v_istore dX4_opens_58 (by decide) ?_
    refine v_loc2 (by repeat' (first | with_reducible exact lsub_n | with_reducible refine lsub_c ?_ ?_ | with_reducible refine lk_hit ?_ | with_reducible refine lk_miss (by decide) ?_ ?_ | exact rfl)) (v_lp2 (fun (w : Nat) (hh : AH) => nW - w) (fun (w : Nat) (hh : AH) => w ≤ nW ∧ r6_ h51 hh) (fun (w : Nat) (hh : AH) => [(0, .ref 241), (1, .int (nI cn)), (2, .int (nI thn)), (3, .int (nI gn)), (4, .int (nI sn)), (5, .int (nI en)), (6, .int (nI (tc_ (fun w p => op_ h sN nC cn thn gn sn en w p) sN w))), (7, .int (nI w))]) (fun (w : Nat) (hh : AH) => hh) ?_ 0 _ ⟨Nat.zero_le _, r6_rf _⟩)
    intro w hh hI IH
    obtain ⟨hI1, hr⟩ := hI
    have hm : MI hh := r6_m hr hLd.1
    refine v_iload dX4_opens_60 rfl ?_
    refine v_aload_n dX4_opens_62 rfl rfl ?_
    refine v_getI fX4_297 dX4_opens_63 (mK_obj hm) ?_
    rw [hr.2.2.2.2.2 15 (by omega), hWL.1]
    refine v_icmp_ge (tgt := 138) dX4_opens_66 (by decide) (fun b66 => ?_) (fun b66 => ?_)
    · skip
      rw [nI_leI (by omega) (by omega)] at b66
      have hk : nW = w := by omega
      refine v_iload dX4_opens_138 rfl ?_
      subst hk
      refine v_reti dX4_opens_140 rfl (Pf_i (fp_tr hpt (fp_tr (fp_fx hfx1) (fp_tr (fp_fz hfz1) (fp_tr (fp_fx hfx2) (fp_r6 hr))))) ?_)
      unfold sp_opens
      rw [← hCh] at q1
      rw [← hs] at q5
      rw [← (sv_laid hv).2] at q4
      rw [cf_t ⟨q1, q4, q5, q6⟩]
      simp (disch := omega) only [nI_clamp]
    · skip
      rw [nI_leI (by omega) (by omega)] at b66
      have hk : w < nW := by omega
      refine v_iconst (v := 0) dX4_opens_69 (by decide) ?_
      refine v_istore dX4_opens_70 (by decide) ?_
      refine v_loc2 (by repeat' (first | with_reducible exact lsub_n | with_reducible refine lsub_c ?_ ?_ | with_reducible refine lk_hit ?_ | with_reducible refine lk_miss (by decide) ?_ ?_ | exact rfl)) (v_lp2 (fun (p : Nat) (hi : AH) => sN - p) (fun (p : Nat) (hi : AH) => p ≤ sN ∧ r6_ h51 hi) (fun (p : Nat) (hi : AH) => [(0, .ref 241), (1, .int (nI cn)), (2, .int (nI thn)), (3, .int (nI gn)), (4, .int (nI sn)), (5, .int (nI en)), (6, .int (nI (tc_ (fun w p => op_ h sN nC cn thn gn sn en w p) sN w + gc_ (fun p => op_ h sN nC cn thn gn sn en w p) p))), (7, .int (nI w)), (8, .int (nI p))]) (fun (p : Nat) (hi : AH) => hi) ?_ 0 _ ⟨Nat.zero_le _, hr⟩)
      intro p hi hJ IHj
      obtain ⟨hJ1, hrr⟩ := hJ
      have hm : MI hi := r6_m hrr hLd.1
      refine v_iload dX4_opens_72 rfl ?_
      refine v_aload_n dX4_opens_74 rfl rfl ?_
      refine v_getI fX4_24 dX4_opens_75 (mK_obj hm) ?_
      rw [hrr.2.2.2.2.2 4 (by omega), hLd.2.1]
      refine v_icmp_ge (tgt := 132) dX4_opens_78 (by decide) (fun b78 => ?_) (fun b78 => ?_)
      · skip
        rw [nI_leI (by omega) (by omega)] at b78
        have hk2 : sN = p := by omega
        subst hk2
        refine v_iinc dX4_opens_132 rfl (by first | with_reducible exact nI_inc _ | exact rfl) (by decide) ?_
        refine v_goto (tgt := 60) dX4_opens_135 (by decide) ?_
        refine v_loc2 (by repeat' (first | with_reducible exact lsub_n | with_reducible refine lsub_c ?_ ?_ | with_reducible refine lk_hit ?_ | with_reducible refine lk_miss (by decide) ?_ ?_ | exact rfl)) (IH (w + 1) _ ⟨by omega, hrr⟩ (by omega))
      · skip
        rw [nI_leI (by omega) (by omega)] at b78
        have hk2 : p < sN := by omega
        obtain ⟨kn, hst, hwk⟩ := (WX_r6 hWL hrr).2.2 w hk
        refine v_iload dX4_opens_81 rfl ?_
        refine v_aload_n dX4_opens_83 rfl rfl ?_
        refine v_getR fX4_103 dX4_opens_84 (mK_obj hm) (mR_fitted hm) ?_ fcA_Z
        refine v_bipush (v := nI 8) dX4_opens_87 (by decide) ?_
        refine v_iload dX4_opens_89 rfl ?_
        refine v_imul dX4_opens_91 ?_
        refine v_iload dX4_opens_92 rfl ?_
        refine v_iadd dX4_opens_94 ?_
        refine v_zald dX4_opens_95 (mK_fitted hm) (ix_add (ix_mul rfl rfl) rfl) (by first | assumption | omega) ?_
        rw [hrr.2.2.2.2.1 269 (by decide), hfx2.2.2.2.2.1 269 (Or.inr (by decide)) (by decide), hfit w hk p hk2, th_33, th_ct, fiv_th]
        refine v_if_ne (tgt := 122) dX4_opens_96 (by decide) (fun b96 => ?_) (fun b96 => ?_)
        · skip
          rw [b2c_n0] at b96
          have eg : gc_ (fun p => op_ h sN nC cn thn gn sn en w p) (p + 1) = gc_ (fun p => op_ h sN nC cn thn gn sn en w p) p := cf_f (fun z => b96 z.1)
          have hr9 := hrr
          refine v_iconst (v := 0) dX4_opens_122 (by decide) ?_
          refine v_iadd dX4_opens_123 ?_
          first | rw [Int32.add_zero] | rw [nI_1]
          refine v_istore dX4_opens_124 (by decide) ?_
          refine v_iinc dX4_opens_126 rfl (by first | with_reducible exact nI_inc _ | exact rfl) (by decide) ?_
          refine v_goto (tgt := 72) dX4_opens_129 (by decide) ?_
          refine v_loc2 (by repeat' (first | with_reducible exact lsub_n | with_reducible refine lsub_c ?_ ?_ | with_reducible refine lk_hit ?_ | with_reducible refine lk_miss (by decide) ?_ ?_ | (first | exact rfl | (rw [eg]; done) | (rw [eg]; exact rfl)))) (IHj (p + 1) _ ⟨by omega, hr9⟩ (by omega))
        · skip
          rw [b2c_0, Classical.not_not] at b96
          refine v_aload_n dX4_opens_99 rfl rfl ?_
          refine v_iload dX4_opens_100 rfl ?_
          refine v_iload dX4_opens_102 rfl ?_
          refine v_iconst (v := nI 0) dX4_opens_104 (by decide) ?_
          refine v_iload_n dX4_opens_105 rfl rfl ?_
          refine v_iload_n dX4_opens_106 rfl rfl ?_
          refine v_iload dX4_opens_107 rfl ?_
          refine v_iload dX4_opens_109 rfl ?_
          refine v_zV mtX4_fitsAt q2004 q2006 qs86 rfl (by decide) dX4_opens_111 (c_X4_fitsAt (k := kn) (w := w) (p := p) (f := 0) (th := thn) (g := gn) (s := sn) (e := en) hv (r6_LD hLd hrr) hk2 (by decide) hthn (by omega) hse (by omega) (by omega) hst hwk) (mK_obj hm) (by decide) (fun r111 h111 q111 z111 => ?_)
          obtain ⟨rfl, hr6⟩ := q111
          rw [fiv_k hst hwk.1, fiv_r6 hrr, fiv_fx hfx2, fiv_fz hfz1, fiv_fx hfx1, fiv_th]
          have hr9 := r6_tr hrr hr6
          refine v_iconst (v := (-1)) dX4_opens_114 (by decide) ?_
          refine v_icmp_eq (tgt := 122) dX4_opens_115 (by decide) (fun b115 => ?_) (fun b115 => ?_)
          · skip
            have eg : gc_ (fun p => op_ h sN nC cn thn gn sn en w p) (p + 1) = gc_ (fun p => op_ h sN nC cn thn gn sn en w p) p := cf_f (fun z => z.2 b115)
            refine v_iconst (v := 0) dX4_opens_122 (by decide) ?_
            refine v_iadd dX4_opens_123 ?_
            first | rw [Int32.add_zero] | rw [nI_1]
            refine v_istore dX4_opens_124 (by decide) ?_
            refine v_iinc dX4_opens_126 rfl (by first | with_reducible exact nI_inc _ | exact rfl) (by decide) ?_
            refine v_goto (tgt := 72) dX4_opens_129 (by decide) ?_
            refine v_loc2 (by repeat' (first | with_reducible exact lsub_n | with_reducible refine lsub_c ?_ ?_ | with_reducible refine lk_hit ?_ | with_reducible refine lk_miss (by decide) ?_ ?_ | (first | exact rfl | (rw [eg]; done) | (rw [eg]; exact rfl)))) (IHj (p + 1) _ ⟨by omega, hr9⟩ (by omega))
          · skip
            have eg : gc_ (fun p => op_ h sN nC cn thn gn sn en w p) (p + 1) = gc_ (fun p => op_ h sN nC cn thn gn sn en w p) p + 1 := cf_t ⟨b96, b115⟩
            refine v_iconst (v := 1) dX4_opens_118 (by decide) ?_
            refine v_goto (tgt := 123) dX4_opens_119 (by decide) ?_
            refine v_iadd dX4_opens_123 ?_
            first | rw [Int32.add_zero] | rw [nI_1]
            refine v_istore dX4_opens_124 (by decide) ?_
            refine v_iinc dX4_opens_126 rfl (by first | with_reducible exact nI_inc _ | exact rfl) (by decide) ?_
            refine v_goto (tgt := 72) dX4_opens_129 (by decide) ?_
            refine v_loc2 (by repeat' (first | with_reducible exact lsub_n | with_reducible refine lsub_c ?_ ?_ | with_reducible refine lk_hit ?_ | with_reducible refine lk_miss (by decide) ?_ ?_ | (first | exact rfl | (rw [eg]; done) | (rw [eg]; exact rfl)))) (IHj (p + 1) _ ⟨by omega, hr9⟩ (by omega))
  · skip
    refine v_cut 34 (¬ ((0 ≤ c ∧ c < hp_I h 241 48) ∧ tsk_ h th g s e)) (fun hz34 => ?_) (fun hc34 => ?_)
    · skip
      refine v_iconst (v := (-1)) dX4_opens_34 (by decide) ?_
      exact v_reti dX4_opens_35 rfl (Pf_i hpt (by unfold sp_opens; rw [cf_f hz34]))
    · skip
      refine v_iload_n dX4_opens_5 rfl rfl ?_
      refine v_i2l dX4_opens_6 ?_
      refine v_lconst (v := (0 : Int32).toInt64) dX4_opens_7 (by decide) ?_
      refine v_aload_n dX4_opens_8 rfl rfl ?_
      refine v_getI fX4_122 dX4_opens_9 (mK_obj hm) ?_
      rw [hCt]
      refine v_iconst (v := 1) dX4_opens_12 (by decide) ?_
      refine v_isub dX4_opens_13 ?_
      refine v_i2l dX4_opens_14 ?_
      refine v_pS mtX4_within q1790 q1791 dX4_opens_15 (c_X4_within _ _ _) (by decide) ?_
      refine v_if_eq (tgt := 34) dX4_opens_18 (by decide) (fun b18 => ?_) (fun b18 => ?_)
      · skip
        exact hc34 (by unfold tsk_; (try simp only [b2i_0, b2i_n0] at *); (try simp only [th_4, th_33] at *); grind)
      · skip
        refine v_aload_n dX4_opens_21 rfl rfl ?_
        refine v_iload_n dX4_opens_22 rfl rfl ?_
        refine v_iload_n dX4_opens_23 rfl rfl ?_
        refine v_iload dX4_opens_24 rfl ?_
        refine v_iload dX4_opens_26 rfl ?_
        refine v_pV mtX4_isTask q2000 q2002 qs85 rfl (by decide) dX4_opens_28 (c_X4_isTask hm _ _ _ _) (mK_obj hm) (by decide) ?_
        refine v_if_ne (tgt := 36) dX4_opens_31 (by decide) (fun b31 => ?_) (fun b31 => ?_)
        · skip
          exact hc36 (by unfold tsk_; (try simp only [b2i_0, b2i_n0] at *); (try simp only [th_4, th_33] at *); grind)
        · skip
          exact hc34 (by unfold tsk_; (try simp only [b2i_0, b2i_n0] at *); (try simp only [th_4, th_33] at *); grind)

