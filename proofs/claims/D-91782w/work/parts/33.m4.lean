set_option maxRecDepth 100000
theorem rg_sh (f : Nat → Int32) (c a k : Nat) (v : Int32) (h : a ≤ k) : upd (rg_ f (c + a) (c + k) v) (c + k) v = rg_ f (c + a) (c + (k + 1)) v := rg_s f (c + a) (c + k) v (by omega)
def sp_hold (h : AH) (a x y s e : Int32) : Int32 × AH :=
  if ¬ ((0 ≤ a ∧ a < 2 * hp_I h 241 4) ∧ ((x = -1 ∧ y = -1) ∨ ((0 ≤ x ∧ x < 2 * hp_I h 241 4) ∧ (0 ≤ y ∧ y < 2 * hp_I h 241 4)))) then (0, rf_ (th_ h) 1) else if ¬ (0 ≤ s ∧ s ≤ e ∧ e ≤ 99) then (0, rf_ (th_ h) 2)
  else if ¬ (x = -1 ∧ y = -1) ∧ ¬ (((a.toNatClampNeg / 2 + 1) % (hp_I h 241 4).toNatClampNeg = x.toNatClampNeg / 2 ∨ (x.toNatClampNeg / 2 + 1) % (hp_I h 241 4).toNatClampNeg = a.toNatClampNeg / 2) ∧ ¬ (y.toNatClampNeg / 2 = a.toNatClampNeg / 2)) then (0, rf_ (th_ h) 5)
  else (1, up_IA (th_ h) 243 (rg_ (rg_ (hp_I h 243) (1070 + 100 * a.toNatClampNeg + s.toNatClampNeg) (1070 + 100 * a.toNatClampNeg + (e.toNatClampNeg + 1)) x) (2870 + 100 * a.toNatClampNeg + s.toNatClampNeg) (2870 + 100 * a.toNatClampNeg + (e.toNatClampNeg + 1)) y))
theorem rg_s2 (f : Nat → Int32) (c d a k : Nat) (v u : Int32) (h : a ≤ k) (hcd : c + 200 ≤ d) (hk : k < 200) : upd (upd (rg_ (rg_ f (c + a) (c + k) v) (d + a) (d + k) u) (c + k) v) (d + k) u = rg_ (rg_ f (c + a) (c + (k + 1)) v) (d + a) (d + (k + 1)) u := funext fun i => by
  unfold upd rg_
  by_cases e1 : i = d + k
  · rw [if_pos e1, if_pos (by omega)]
  · rw [if_neg e1]
    by_cases e2 : i = c + k
    · rw [if_pos e2, if_neg (by omega), if_pos (by omega)]
    · rw [if_neg e2]
      by_cases z : d + a ≤ i ∧ i < d + k
      · rw [if_pos z, if_pos (by omega)]
      · rw [if_neg z, if_neg (c := d + a ≤ i ∧ i < d + (k + 1)) (by omega)]
        by_cases y : c + a ≤ i ∧ i < c + k
        · rw [if_pos y, if_pos (by omega)]
        · rw [if_neg y, if_neg (by omega)]
theorem c_X4_attend {G : Gv} {h : AH} (hm : MI h) {sN : Nat} (hs : hp_I h 241 4 = nI sN) (h3 : 3 ≤ sN ∧ sN ≤ 9) (p x a b : Int32) : Ctr G 3 yX4_attend cX4_attend 6 (some .boolean) [.ref 241, .int p, .int x, .int a, .int b] h 0 0 (Pr (sp_attend h p x a b)) := by
  refine ctr_of (own := RX4) (nm := "attend") (by decide) (Nat.le_of_ble_eq_true rfl) ?_
  refine v_aload_n dX4_attend_0 rfl rfl ?_
  refine v_iconst (v := 0) dX4_attend_1 (by decide) ?_
  refine v_thr fX4_1 dX4_attend_2 hm ?_
  have hm := MI_th hm
  refine v_cut 32 ((0 ≤ p ∧ p < hp_I h 241 4) ∧ (x = -1 ∨ (0 ≤ x ∧ x ≤ hp_I h 241 4))) (fun hz32 => ?_) (fun hc32 => ?_)
  · skip
    refine v_iload_n dX4_attend_32 rfl rfl ?_
    refine v_iload dX4_attend_33 rfl ?_
    refine v_pS mtX4_areSeconds q1809 q1810 dX4_attend_35 (c_X4_areSeconds _ _) (by decide) ?_
    refine v_if_ne (tgt := 47) dX4_attend_38 (by decide) (fun b38 => ?_) (fun b38 => ?_)
    · skip
      have hok : 0 ≤ a ∧ a ≤ b ∧ b ≤ 99 := (by (try simp only [b2i_0, b2i_n0] at *); (try simp only [th_4, th_33] at *); grind)
      obtain ⟨an, bn, hab, hb, rfl, rfl⟩ := sec2 hok
      obtain ⟨pn, hpn, rfl⟩ : ∃ k, k < sN ∧ p = nI k := nI_rng (by rw [← hs]; exact hz32.1) (by omega)
      refine v_iload_n dX4_attend_47 rfl rfl ?_
      refine v_istore dX4_attend_48 (by decide) ?_
      refine v_loc2 (by repeat' (first | exact trivial | refine And.intro ?_ ?_ | exact rfl)) (v_lp2 (fun (k : Nat) (hh : AH) => bn + 1 - k) (fun (k : Nat) (hh : AH) => (an ≤ k ∧ k ≤ bn + 1) ∧ hh = up_IA (th_ h) 243 (rg_ (hp_I h 243) (120 + 100 * pn + an) (120 + 100 * pn + k) x)) (fun (k : Nat) (hh : AH) => [(0, .ref 241), (1, .int (nI pn)), (2, .int x), (3, .int (nI an)), (4, .int (nI bn)), (5, .int (nI k))]) (fun (k : Nat) (hh : AH) => hh) ?_ an _ ⟨⟨Nat.le_refl _, by omega⟩, by rw [rg_0, ← th_33, IA_id]⟩)
      intro k hh hI IH
      obtain ⟨⟨hI1, hI2⟩, rfl⟩ := hI
      have hm : MI (up_IA (th_ h) 243 (rg_ (hp_I h 243) (120 + 100 * pn + an) (120 + 100 * pn + k) x)) := MI_IA hm
      refine v_iload dX4_attend_50 rfl ?_
      refine v_iload dX4_attend_52 rfl ?_
      refine v_icmp_gt (tgt := 79) dX4_attend_54 (by decide) (fun b54 => ?_) (fun b54 => ?_)
      · skip
        rw [nI_ltI (by omega) (by omega)] at b54
        refine v_iconst (v := 1) dX4_attend_79 (by decide) ?_
        have hk : k = bn + 1 := by omega
        subst hk
        exact v_reti dX4_attend_80 rfl (by unfold sp_attend; rw [if_neg (fun z => z hz32), if_neg (fun z => z hok), nI_clamp (by omega), nI_clamp (by omega), nI_clamp (by omega)]; exact ⟨rfl, rfl⟩)
      · skip
        rw [Int32.not_lt, nI_leI (by omega) (by omega)] at b54
        refine v_aload_n dX4_attend_57 rfl rfl ?_
        refine v_getR fX4_17 dX4_attend_58 (mK_obj hm) (mR_all hm) ?_ fcA_I
        refine v_bipush (v := 120) dX4_attend_61 (by decide) ?_
        refine v_bipush (v := 100) dX4_attend_63 (by decide) ?_
        refine v_iload_n dX4_attend_65 rfl rfl ?_
        refine v_imul dX4_attend_66 ?_
        refine v_iadd dX4_attend_67 ?_
        refine v_iload dX4_attend_68 rfl ?_
        refine v_iadd dX4_attend_70 ?_
        refine v_iload_n dX4_attend_71 rfl rfl ?_
        refine v_iast dX4_attend_72 (mK_all hm) (ix_add (ix_add (ix_lit _) (ix_mul (ix_lit _) rfl)) rfl) (by first | assumption | omega) ?_
        refine v_iinc dX4_attend_73 rfl (by first | with_reducible exact nI_inc _ | exact rfl) (by decide) ?_
        refine v_goto (tgt := 50) dX4_attend_76 (by decide) ?_
        refine v_loc2 (by repeat' (first | exact trivial | refine And.intro ?_ ?_ | exact rfl)) (IH (k + 1) _ ⟨⟨by omega, by omega⟩, ?_⟩ (by omega))
        rw [I_IA, rg_sh _ _ _ _ _ hI1]
    · skip
      refine v_aload_n dX4_attend_41 rfl rfl ?_
      refine v_iconst (v := nI 2) dX4_attend_42 (by decide) ?_
      refine v_zV mtX4_refuses q1793 q1795 qs58 rfl (by decide) dX4_attend_43 (c_X4_refuses hm ?_) (mK_obj hm) (by decide) (fun r43 h43 q43 z43 => ?_)
      · decide
      obtain ⟨rfl, rfl⟩ := q43
      exact v_reti dX4_attend_46 rfl (by (try simp (disch := omega) only [nI_clamp] at *); (try simp only [b2i_0, b2i_n0] at *); (try simp only [th_4, th_33] at *); unfold sp_attend; (try simp (disch := omega) only [nI_clamp]); repeat' (first | exact ⟨rfl, rfl⟩ | split | (exfalso; grind)))
  · skip
    refine v_cut 26 (¬ ((0 ≤ p ∧ p < hp_I h 241 4) ∧ (x = -1 ∨ (0 ≤ x ∧ x ≤ hp_I h 241 4)))) (fun hz26 => ?_) (fun hc26 => ?_)
    · skip
      refine v_aload_n dX4_attend_26 rfl rfl ?_
      refine v_iconst (v := nI 1) dX4_attend_27 (by decide) ?_
      refine v_zV mtX4_refuses q1793 q1795 qs58 rfl (by decide) dX4_attend_28 (c_X4_refuses hm ?_) (mK_obj hm) (by decide) (fun r28 h28 q28 z28 => ?_)
      · decide
      obtain ⟨rfl, rfl⟩ := q28
      exact v_reti dX4_attend_31 rfl (by (try simp (disch := omega) only [nI_clamp] at *); (try simp only [b2i_0, b2i_n0] at *); (try simp only [th_4, th_33] at *); unfold sp_attend; (try simp (disch := omega) only [nI_clamp]); repeat' (first | exact ⟨rfl, rfl⟩ | split | (exfalso; grind)))
    · skip
      refine v_aload_n dX4_attend_5 rfl rfl ?_
      refine v_iload_n dX4_attend_6 rfl rfl ?_
      refine v_pV mtX4_isPerson q1801 q1803 qs59 rfl (by decide) dX4_attend_7 (c_X4_isPerson hm _) (mK_obj hm) (by decide) ?_
      refine v_if_eq (tgt := 26) dX4_attend_10 (by decide) (fun b10 => ?_) (fun b10 => ?_)
      · skip
        exact hc26 (by (try simp only [b2i_0, b2i_n0] at *); (try simp only [th_4, th_33] at *); grind)
      · skip
        refine v_iload_n dX4_attend_13 rfl rfl ?_
        refine v_iconst (v := (-1)) dX4_attend_14 (by decide) ?_
        refine v_icmp_eq (tgt := 32) dX4_attend_15 (by decide) (fun b15 => ?_) (fun b15 => ?_)
        · skip
          exact hc32 (by (try simp only [b2i_0, b2i_n0] at *); (try simp only [th_4, th_33] at *); grind)
        · skip
          refine v_aload_n dX4_attend_18 rfl rfl ?_
          refine v_iload_n dX4_attend_19 rfl rfl ?_
          refine v_pV mtX4_isSpot q1819 q1821 qs60 rfl (by decide) dX4_attend_20 (c_X4_isSpot hm _) (mK_obj hm) (by decide) ?_
          refine v_if_ne (tgt := 32) dX4_attend_23 (by decide) (fun b23 => ?_) (fun b23 => ?_)
          · skip
            exact hc32 (by (try simp only [b2i_0, b2i_n0] at *); (try simp only [th_4, th_33] at *); grind)
          · skip
            exact hc26 (by (try simp only [b2i_0, b2i_n0] at *); (try simp only [th_4, th_33] at *); grind)

theorem c_X4_lead {G : Gv} {h : AH} (hm : MI h) {sN : Nat} (hv : sv_ok (hp_I h 243) sN) (x v a b : Int32) : Ctr G 3 yX4_lead cX4_lead 6 (some .int) [.ref 241, .int x, .int v, .int a, .int b] h 0 0 (Pr (sp_lead h x v a b)) := by
  refine ctr_of (own := RX4) (nm := "lead") (by decide) (Nat.le_of_ble_eq_true rfl) ?_
  obtain ⟨hL1, hL2⟩ := sv_led hv
  refine v_aload_n dX4_lead_0 rfl rfl ?_
  refine v_iconst (v := 0) dX4_lead_1 (by decide) ?_
  refine v_thr fX4_1 dX4_lead_2 hm ?_
  have hm := MI_th hm
  refine v_aload_n dX4_lead_5 rfl rfl ?_
  refine v_iload_n dX4_lead_6 rfl rfl ?_
  refine v_pV mtX4_isSpot q1819 q1821 qs60 rfl (by decide) dX4_lead_7 (c_X4_isSpot hm _) (mK_obj hm) (by decide) ?_
  refine v_if_ne (tgt := 19) dX4_lead_10 (by decide) (fun b10 => ?_) (fun b10 => ?_)
  · skip
    refine v_cut 40 ((0 ≤ x ∧ x ≤ hp_I h 241 4) ∧ ¬ ((1 ≤ v ∧ v ≤ 9) ∧ (0 ≤ a ∧ a ≤ b ∧ b ≤ 99))) (fun hz40 => ?_) (fun hc40 => ?_)
    · skip
      refine v_aload_n dX4_lead_40 rfl rfl ?_
      refine v_iconst (v := nI 2) dX4_lead_41 (by decide) ?_
      refine v_zV mtX4_refuse q1827 q1829 qs61 rfl (by decide) dX4_lead_42 (c_X4_refuse hm ?_) (mK_obj hm) (by decide) (fun r42 h42 q42 z42 => ?_)
      · decide
      obtain ⟨rfl, rfl⟩ := q42
      exact v_reti dX4_lead_45 rfl (by (try simp (disch := omega) only [nI_clamp] at *); (try simp only [b2i_0, b2i_n0] at *); (try simp only [th_4, th_33] at *); unfold sp_lead; (try simp (disch := omega) only [nI_clamp]); repeat' (first | exact ⟨rfl, rfl⟩ | split | (exfalso; grind)))
    · skip
      refine v_iload_n dX4_lead_19 rfl rfl ?_
      refine v_i2l dX4_lead_20 ?_
      refine v_lconst (v := (1 : Int32).toInt64) dX4_lead_21 (by decide) ?_
      refine v_ldc2 (v := (9 : Int32).toInt64) q1789 dX4_lead_22 (by decide) ?_
      refine v_pS mtX4_within q1790 q1791 dX4_lead_25 (c_X4_within _ _ _) (by decide) ?_
      refine v_if_eq (tgt := 40) dX4_lead_28 (by decide) (fun b28 => ?_) (fun b28 => ?_)
      · skip
        exact hc40 (by (try simp only [b2i_0, b2i_n0] at *); (try simp only [th_4, th_33] at *); grind)
      · skip
        refine v_iload_n dX4_lead_31 rfl rfl ?_
        refine v_iload dX4_lead_32 rfl ?_
        refine v_pS mtX4_areSeconds q1809 q1810 dX4_lead_34 (c_X4_areSeconds _ _) (by decide) ?_
        refine v_if_ne (tgt := 46) dX4_lead_37 (by decide) (fun b37 => ?_) (fun b37 => ?_)
        · skip
          have hok : (1 ≤ v ∧ v ≤ 9) ∧ (0 ≤ a ∧ a ≤ b ∧ b ≤ 99) := (by (try simp only [b2i_0, b2i_n0] at *); (try simp only [th_4, th_33] at *); grind)
          have hok2 : 0 ≤ x ∧ x ≤ hp_I h 241 4 := (by (try simp only [b2i_0, b2i_n0] at *); (try simp only [th_4, th_33] at *); grind)
          clear hc40
          refine v_aload_n dX4_lead_46 rfl rfl ?_
          refine v_getR fX4_17 dX4_lead_47 (mK_obj hm) (mR_all hm) ?_ fcA_I
          refine v_sipush (v := 4880) dX4_lead_50 (by decide) ?_
          refine v_iald dX4_lead_53 (mK_all hm) (ix_lit _) (by first | assumption | omega) ?_
          refine v_bipush (v := 12) dX4_lead_54 (by decide) ?_
          refine v_icmp_ne (tgt := 65) dX4_lead_56 (by decide) (fun b56 => ?_) (fun b56 => ?_)
          · skip
            rw [th_33, hL2] at b56
            have hLn : nLed (hp_I h 243) ≠ 12 := fun z => b56 (by rw [z]; rfl)
            generalize hLg : nLed (hp_I h 243) = L at hL1 hL2 hLn
            refine v_sipush (v := 1020) dX4_lead_65 (by decide) ?_
            refine v_iconst (v := 4) dX4_lead_68 (by decide) ?_
            refine v_aload_n dX4_lead_69 rfl rfl ?_
            refine v_getR fX4_17 dX4_lead_70 (mK_obj hm) (mR_all hm) ?_ fcA_I
            refine v_sipush (v := 4880) dX4_lead_73 (by decide) ?_
            refine v_iald dX4_lead_76 (mK_all hm) (ix_lit _) (by first | assumption | omega) ?_
            rw [th_33, hL2]
            refine v_imul dX4_lead_77 ?_
            refine v_iadd dX4_lead_78 ?_
            refine v_istore dX4_lead_79 (by decide) ?_
            refine v_aload_n dX4_lead_81 rfl rfl ?_
            refine v_getR fX4_17 dX4_lead_82 (mK_obj hm) (mR_all hm) ?_ fcA_I
            refine v_iload dX4_lead_85 rfl ?_
            refine v_iload_n dX4_lead_87 rfl rfl ?_
            refine v_iast dX4_lead_88 (mK_all hm) (ix_add (ix_lit _) (ix_mul (ix_lit _) rfl)) (by first | assumption | omega) ?_
            refine v_aload_n dX4_lead_89 rfl rfl ?_
            refine v_getR fX4_17 dX4_lead_90 (mK_obj hm) (mR_all hm) ?_ fcA_I
            refine v_iload dX4_lead_93 rfl ?_
            refine v_iconst (v := 1) dX4_lead_95 (by decide) ?_
            refine v_iadd dX4_lead_96 ?_
            refine v_iload_n dX4_lead_97 rfl rfl ?_
            refine v_iast dX4_lead_98 (mK_all hm) (ix_add (ix_add (ix_lit _) (ix_mul (ix_lit _) rfl)) (ix_lit _)) (by first | assumption | omega) ?_
            refine v_aload_n dX4_lead_99 rfl rfl ?_
            refine v_getR fX4_17 dX4_lead_100 (mK_obj hm) (mR_all hm) ?_ fcA_I
            refine v_iload dX4_lead_103 rfl ?_
            refine v_iconst (v := 2) dX4_lead_105 (by decide) ?_
            refine v_iadd dX4_lead_106 ?_
            refine v_iload_n dX4_lead_107 rfl rfl ?_
            refine v_iast dX4_lead_108 (mK_all hm) (ix_add (ix_add (ix_lit _) (ix_mul (ix_lit _) rfl)) (ix_lit _)) (by first | assumption | omega) ?_
            refine v_aload_n dX4_lead_109 rfl rfl ?_
            refine v_getR fX4_17 dX4_lead_110 (mK_obj hm) (mR_all hm) ?_ fcA_I
            refine v_iload dX4_lead_113 rfl ?_
            refine v_iconst (v := 3) dX4_lead_115 (by decide) ?_
            refine v_iadd dX4_lead_116 ?_
            refine v_iload dX4_lead_117 rfl ?_
            refine v_iast dX4_lead_119 (mK_all hm) (ix_add (ix_add (ix_lit _) (ix_mul (ix_lit _) rfl)) (ix_lit _)) (by first | assumption | omega) ?_
            refine v_aload_n dX4_lead_120 rfl rfl ?_
            refine v_getR fX4_17 dX4_lead_121 (mK_obj hm) (mR_all hm) ?_ fcA_I
            refine v_sipush (v := 4880) dX4_lead_124 (by decide) ?_
            refine v_dup2 dX4_lead_127 rfl rfl ?_
            refine v_iald dX4_lead_128 (mK_all hm) (ix_lit _) (by first | assumption | omega) ?_
            rw [show hp_I (up_I (up_I (up_I (up_I (th_ h) 243 (1020 + 4 * L) x) 243 (1020 + 4 * L + 1) v) 243 (1020 + 4 * L + 2) a) 243 (1020 + 4 * L + 3) b) 243 4880 = nI L from by simp only [hp_I_I]; rw [if_neg (by omega), if_neg (by omega), if_neg (by omega), if_neg (by omega), th_33, hL2]]
            refine v_iconst (v := 1) dX4_lead_129 (by decide) ?_
            refine v_iadd dX4_lead_130 ?_
            rw [nI_1]
            refine v_iast dX4_lead_131 (mK_all hm) (ix_lit _) (by first | assumption | omega) ?_
            refine v_aload_n dX4_lead_132 rfl rfl ?_
            refine v_getR fX4_17 dX4_lead_133 (mK_obj hm) (mR_all hm) ?_ fcA_I
            refine v_sipush (v := 4880) dX4_lead_136 (by decide) ?_
            refine v_iald dX4_lead_139 (mK_all hm) (ix_lit _) (by first | assumption | omega) ?_
            rw [hp_I_I, if_pos ⟨rfl, rfl⟩]
            refine v_iconst (v := 1) dX4_lead_140 (by decide) ?_
            refine v_isub dX4_lead_141 ?_
            rw [nI_pred]
            exact v_reti dX4_lead_142 rfl (by unfold sp_lead; rw [if_neg (fun z => z hok2), if_neg (fun z => z hok), hLg, if_neg hLn]; exact ⟨rfl, rfl⟩)
          · skip
            rw [th_33, hL2] at b56
            have hLn : nLed (hp_I h 243) = 12 := (nI_eqL (by omega) (by decide)).mp b56
            refine v_aload_n dX4_lead_59 rfl rfl ?_
            refine v_iconst (v := nI 3) dX4_lead_60 (by decide) ?_
            refine v_zV mtX4_refuse q1827 q1829 qs61 rfl (by decide) dX4_lead_61 (c_X4_refuse hm ?_) (mK_obj hm) (by decide) (fun r61 h61 q61 z61 => ?_)
            · decide
            obtain ⟨rfl, rfl⟩ := q61
            exact v_reti dX4_lead_64 rfl (by unfold sp_lead; rw [if_neg (fun z => z hok2), if_neg (fun z => z hok), if_pos hLn]; exact ⟨rfl, rfl⟩)
        · skip
          exact hc40 (by (try simp only [b2i_0, b2i_n0] at *); (try simp only [th_4, th_33] at *); grind)
  · skip
    refine v_aload_n dX4_lead_13 rfl rfl ?_
    refine v_iconst (v := nI 1) dX4_lead_14 (by decide) ?_
    refine v_zV mtX4_refuse q1827 q1829 qs61 rfl (by decide) dX4_lead_15 (c_X4_refuse hm ?_) (mK_obj hm) (by decide) (fun r15 h15 q15 z15 => ?_)
    · decide
    obtain ⟨rfl, rfl⟩ := q15
    exact v_reti dX4_lead_18 rfl (by (try simp (disch := omega) only [nI_clamp] at *); (try simp only [b2i_0, b2i_n0] at *); (try simp only [th_4, th_33] at *); unfold sp_lead; (try simp (disch := omega) only [nI_clamp]); repeat' (first | exact ⟨rfl, rfl⟩ | split | (exfalso; grind)))

theorem c_X4_thing {G : Gv} {h : AH} (hm : MI h) {sN : Nat} (hv : sv_ok (hp_I h 243) sN) (x : Int32) : Ctr G 3 yX4_thing cX4_thing 2 (some .int) [.ref 241, .int x] h 0 0 (Pr (sp_thing h x)) := by
  refine ctr_of (own := RX4) (nm := "thing") (by decide) (Nat.le_of_ble_eq_true rfl) ?_
  obtain ⟨hL1, hL2⟩ := sv_laid hv
  obtain ⟨hM1, hM2⟩ := sv_mov hv
  generalize hLg : nLaid (hp_I h 243) = L at hL1 hL2
  generalize hMg : nMov (hp_I h 243) = M at hM1 hM2
  refine v_aload_n dX4_thing_0 rfl rfl ?_
  refine v_iconst (v := 0) dX4_thing_1 (by decide) ?_
  refine v_thr fX4_1 dX4_thing_2 hm ?_
  have hm := MI_th hm
  refine v_aload_n dX4_thing_5 rfl rfl ?_
  refine v_iload_n dX4_thing_6 rfl rfl ?_
  refine v_pV mtX4_isSpot q1819 q1821 qs60 rfl (by decide) dX4_thing_7 (c_X4_isSpot hm _) (mK_obj hm) (by decide) ?_
  refine v_if_ne (tgt := 19) dX4_thing_10 (by decide) (fun b10 => ?_) (fun b10 => ?_)
  · skip
    have hok : 0 ≤ x ∧ x ≤ hp_I h 241 4 := (by (try simp only [b2i_0, b2i_n0] at *); (try simp only [th_4, th_33] at *); grind)
    refine v_aload_n dX4_thing_19 rfl rfl ?_
    refine v_getR fX4_17 dX4_thing_20 (mK_obj hm) (mR_all hm) ?_ fcA_I
    refine v_sipush (v := 4881) dX4_thing_23 (by decide) ?_
    refine v_iald dX4_thing_26 (mK_all hm) (ix_lit _) (by first | assumption | omega) ?_
    refine v_bipush (v := 8) dX4_thing_27 (by decide) ?_
    refine v_icmp_ne (tgt := 38) dX4_thing_29 (by decide) (fun b29 => ?_) (fun b29 => ?_)
    · skip
      rw [th_33, hL2] at b29
      have hLn : L ≠ 8 := fun z => b29 (by rw [z]; rfl)
      refine v_aload_n dX4_thing_38 rfl rfl ?_
      refine v_getR fX4_17 dX4_thing_39 (mK_obj hm) (mR_all hm) ?_ fcA_I
      refine v_sipush (v := 4882) dX4_thing_42 (by decide) ?_
      refine v_iald dX4_thing_45 (mK_all hm) (ix_lit _) (by first | assumption | omega) ?_
      refine v_if_le (tgt := 55) dX4_thing_46 (by decide) (fun b46 => ?_) (fun b46 => ?_)
      · skip
        rw [th_33, hM2] at b46
        have hMn : ¬ 0 < M := by have z0 : M ≤ 0 := (nI_leL (n := 0) (by omega) (by decide)).mp b46; omega
        refine v_aload_n dX4_thing_55 rfl rfl ?_
        refine v_getR fX4_17 dX4_thing_56 (mK_obj hm) (mR_all hm) ?_ fcA_I
        refine v_sipush (v := 4670) dX4_thing_59 (by decide) ?_
        refine v_aload_n dX4_thing_62 rfl rfl ?_
        refine v_getR fX4_17 dX4_thing_63 (mK_obj hm) (mR_all hm) ?_ fcA_I
        refine v_sipush (v := 4881) dX4_thing_66 (by decide) ?_
        refine v_iald dX4_thing_69 (mK_all hm) (ix_lit _) (by first | assumption | omega) ?_
        rw [th_33, hL2]
        refine v_iadd dX4_thing_70 ?_
        refine v_iload_n dX4_thing_71 rfl rfl ?_
        refine v_iast dX4_thing_72 (mK_all hm) (ix_add (ix_lit _) rfl) (by first | assumption | omega) ?_
        refine v_aload_n dX4_thing_73 rfl rfl ?_
        refine v_getR fX4_17 dX4_thing_74 (mK_obj hm) (mR_all hm) ?_ fcA_I
        refine v_sipush (v := 4881) dX4_thing_77 (by decide) ?_
        refine v_dup2 dX4_thing_80 rfl rfl ?_
        refine v_iald dX4_thing_81 (mK_all hm) (ix_lit _) (by first | assumption | omega) ?_
        rw [show hp_I (up_I (th_ h) 243 (4670 + L) x) 243 4881 = nI L from by simp only [hp_I_I]; rw [if_neg (by omega), th_33, hL2]]
        refine v_iconst (v := 1) dX4_thing_82 (by decide) ?_
        refine v_iadd dX4_thing_83 ?_
        rw [nI_1]
        refine v_iast dX4_thing_84 (mK_all hm) (ix_lit _) (by first | assumption | omega) ?_
        refine v_aload_n dX4_thing_85 rfl rfl ?_
        refine v_getR fX4_17 dX4_thing_86 (mK_obj hm) (mR_all hm) ?_ fcA_I
        refine v_sipush (v := 4881) dX4_thing_89 (by decide) ?_
        refine v_iald dX4_thing_92 (mK_all hm) (ix_lit _) (by first | assumption | omega) ?_
        rw [hp_I_I, if_pos ⟨rfl, rfl⟩]
        refine v_iconst (v := 1) dX4_thing_93 (by decide) ?_
        refine v_isub dX4_thing_94 ?_
        rw [nI_pred]
        exact v_reti dX4_thing_95 rfl (by unfold sp_thing; rw [hLg, hMg]; rw [if_neg (fun z => z hok), if_neg hLn, if_neg hMn]; exact ⟨rfl, rfl⟩)
      · skip
        rw [th_33, hM2] at b46
        have hMn : 0 < M := Nat.pos_of_ne_zero (fun z => by rw [z] at b46; exact absurd b46 (by decide))
        refine v_aload_n dX4_thing_49 rfl rfl ?_
        refine v_iconst (v := nI 5) dX4_thing_50 (by decide) ?_
        refine v_zV mtX4_refuse q1827 q1829 qs61 rfl (by decide) dX4_thing_51 (c_X4_refuse hm ?_) (mK_obj hm) (by decide) (fun r51 h51 q51 z51 => ?_)
        · decide
        obtain ⟨rfl, rfl⟩ := q51
        exact v_reti dX4_thing_54 rfl (by unfold sp_thing; rw [hLg, hMg]; rw [if_neg (fun z => z hok), if_neg hLn, if_pos hMn]; exact ⟨rfl, rfl⟩)
    · skip
      rw [th_33, hL2] at b29
      have hLn : L = 8 := (nI_eqL (by omega) (by decide)).mp b29
      refine v_aload_n dX4_thing_32 rfl rfl ?_
      refine v_iconst (v := nI 3) dX4_thing_33 (by decide) ?_
      refine v_zV mtX4_refuse q1827 q1829 qs61 rfl (by decide) dX4_thing_34 (c_X4_refuse hm ?_) (mK_obj hm) (by decide) (fun r34 h34 q34 z34 => ?_)
      · decide
      obtain ⟨rfl, rfl⟩ := q34
      exact v_reti dX4_thing_37 rfl (by unfold sp_thing; rw [hLg, hMg]; rw [if_neg (fun z => z hok), if_pos hLn]; exact ⟨rfl, rfl⟩)
  · skip
    refine v_aload_n dX4_thing_13 rfl rfl ?_
    refine v_iconst (v := nI 1) dX4_thing_14 (by decide) ?_
    refine v_zV mtX4_refuse q1827 q1829 qs61 rfl (by decide) dX4_thing_15 (c_X4_refuse hm ?_) (mK_obj hm) (by decide) (fun r15 h15 q15 z15 => ?_)
    · decide
    obtain ⟨rfl, rfl⟩ := q15
    exact v_reti dX4_thing_18 rfl (by (try simp only [b2i_0, b2i_n0] at *); (try simp only [th_4, th_33] at *); unfold sp_thing; rw [hLg, hMg]; rw [if_pos b10]; exact ⟨rfl, rfl⟩)

theorem c_X4_hold {G : Gv} {h : AH} (hm : MI h) {sN : Nat} (hs : hp_I h 241 4 = nI sN) (h3 : 3 ≤ sN ∧ sN ≤ 9) (a x y s e : Int32) : Ctr G 3 yX4_hold cX4_hold 8 (some .boolean) [.ref 241, .int a, .int x, .int y, .int s, .int e] h 0 0 (Pr (sp_hold h a x y s e)) := by
  refine ctr_of (own := RX4) (nm := "hold") (by decide) (Nat.le_of_ble_eq_true rfl) ?_
  refine v_aload_n dX4_hold_0 rfl rfl ?_
  refine v_iconst (v := 0) dX4_hold_1 (by decide) ?_
  refine v_thr fX4_1 dX4_hold_2 hm ?_
  have hm := MI_th hm
  refine v_join 20 (fun z => z = b2i (x = -1 ∧ y = -1)) (fun z hz => ?_) (fun hj20 => ?_)
  · skip
    subst hz
    refine v_istore dX4_hold_20 (by decide) ?_
    refine v_cut 57 ((0 ≤ a ∧ a < 2 * hp_I h 241 4) ∧ ((x = -1 ∧ y = -1) ∨ ((0 ≤ x ∧ x < 2 * hp_I h 241 4) ∧ (0 ≤ y ∧ y < 2 * hp_I h 241 4)))) (fun hz57 => ?_) (fun hc57 => ?_)
    · skip
      refine v_iload dX4_hold_57 rfl ?_
      refine v_iload dX4_hold_59 rfl ?_
      refine v_pS mtX4_areSeconds q1809 q1810 dX4_hold_61 (c_X4_areSeconds _ _) (by decide) ?_
      refine v_if_ne (tgt := 73) dX4_hold_64 (by decide) (fun b64 => ?_) (fun b64 => ?_)
      · skip
        have hok : 0 ≤ s ∧ s ≤ e ∧ e ≤ 99 := (by (try simp only [b2i_0, b2i_n0] at *); (try simp only [th_4, th_33] at *); grind)
        refine v_cut 106 ((x = -1 ∧ y = -1) ∨ (((a.toNatClampNeg / 2 + 1) % sN = x.toNatClampNeg / 2 ∨ (x.toNatClampNeg / 2 + 1) % sN = a.toNatClampNeg / 2) ∧ ¬ (y.toNatClampNeg / 2 = a.toNatClampNeg / 2))) (fun hz106 => ?_) (fun hc106 => ?_)
        · skip
          obtain ⟨sn, en, hse, he, rfl, rfl⟩ := sec2 hok
          rw [hs, nI_2] at hz57
          obtain ⟨an, han, rfl⟩ := nI_rng hz57.1 (by omega)
          refine v_iload dX4_hold_106 rfl ?_
          refine v_istore dX4_hold_108 (by decide) ?_
          refine v_loc2 (by repeat' (first | exact trivial | refine And.intro ?_ ?_ | exact rfl)) (v_lp2 (fun (k : Nat) (hh : AH) => en + 1 - k) (fun (k : Nat) (hh : AH) => (sn ≤ k ∧ k ≤ en + 1) ∧ hh = up_IA (th_ h) 243 (rg_ (rg_ (hp_I h 243) (1070 + 100 * an + sn) (1070 + 100 * an + k) x) (2870 + 100 * an + sn) (2870 + 100 * an + k) y)) (fun (k : Nat) (hh : AH) => [(0, .ref 241), (1, .int (nI an)), (2, .int x), (3, .int y), (4, .int (nI sn)), (5, .int (nI en)), (7, .int (nI k))]) (fun (k : Nat) (hh : AH) => hh) ?_ sn _ ⟨⟨Nat.le_refl _, by omega⟩, by rw [rg_0, rg_0, ← th_33, IA_id]⟩)
          intro k hh hI IH
          obtain ⟨⟨hI1, hI2⟩, rfl⟩ := hI
          have hm : MI (up_IA (th_ h) 243 (rg_ (rg_ (hp_I h 243) (1070 + 100 * an + sn) (1070 + 100 * an + k) x) (2870 + 100 * an + sn) (2870 + 100 * an + k) y)) := MI_IA hm
          refine v_iload dX4_hold_110 rfl ?_
          refine v_iload dX4_hold_112 rfl ?_
          refine v_icmp_gt (tgt := 157) dX4_hold_114 (by decide) (fun b114 => ?_) (fun b114 => ?_)
          · skip
            rw [nI_ltI (by omega) (by omega)] at b114
            refine v_iconst (v := 1) dX4_hold_157 (by decide) ?_
            have hk : k = en + 1 := by omega
            subst hk
            refine v_reti dX4_hold_158 rfl ?_
            unfold sp_hold
            rw [← nI_2, ← hs] at hz57
            rw [if_neg (fun z => z hz57), if_neg (fun z => z hok), hs]
            simp (disch := omega) only [nI_clamp] at hz106 ⊢
            rw [if_neg (fun z => hz106.elim (fun y => z.1 y) (fun y => z.2 y))]
            all_goals exact ⟨rfl, rfl⟩
          · skip
            rw [Int32.not_lt, nI_leI (by omega) (by omega)] at b114
            refine v_aload_n dX4_hold_117 rfl rfl ?_
            refine v_getR fX4_17 dX4_hold_118 (mK_obj hm) (mR_all hm) ?_ fcA_I
            refine v_sipush (v := 1070) dX4_hold_121 (by decide) ?_
            refine v_bipush (v := 100) dX4_hold_124 (by decide) ?_
            refine v_iload_n dX4_hold_126 rfl rfl ?_
            refine v_imul dX4_hold_127 ?_
            refine v_iadd dX4_hold_128 ?_
            refine v_iload dX4_hold_129 rfl ?_
            refine v_iadd dX4_hold_131 ?_
            refine v_iload_n dX4_hold_132 rfl rfl ?_
            refine v_iast dX4_hold_133 (mK_all hm) (ix_add (ix_add (ix_lit _) (ix_mul (ix_lit _) rfl)) rfl) (by first | assumption | omega) ?_
            refine v_aload_n dX4_hold_134 rfl rfl ?_
            refine v_getR fX4_17 dX4_hold_135 (mK_obj hm) (mR_all hm) ?_ fcA_I
            refine v_sipush (v := 2870) dX4_hold_138 (by decide) ?_
            refine v_bipush (v := 100) dX4_hold_141 (by decide) ?_
            refine v_iload_n dX4_hold_143 rfl rfl ?_
            refine v_imul dX4_hold_144 ?_
            refine v_iadd dX4_hold_145 ?_
            refine v_iload dX4_hold_146 rfl ?_
            refine v_iadd dX4_hold_148 ?_
            refine v_iload_n dX4_hold_149 rfl rfl ?_
            refine v_iast dX4_hold_150 (mK_all hm) (ix_add (ix_add (ix_lit _) (ix_mul (ix_lit _) rfl)) rfl) (by first | assumption | omega) ?_
            refine v_iinc dX4_hold_151 rfl (by first | with_reducible exact nI_inc _ | exact rfl) (by decide) ?_
            refine v_goto (tgt := 110) dX4_hold_154 (by decide) ?_
            refine v_loc2 (by repeat' (first | exact trivial | refine And.intro ?_ ?_ | exact rfl)) (IH (k + 1) _ ⟨⟨by omega, by omega⟩, ?_⟩ (by omega))
            rw [I_IA, I_IA, rg_s2 _ _ _ _ _ _ _ hI1 (by omega) (by omega)]
        · skip
          refine v_iload dX4_hold_73 rfl ?_
          refine v_if_ne (tgt := 106) dX4_hold_75 (by decide) (fun b75 => ?_) (fun b75 => ?_)
          · skip
            exact hc106 (by (try simp only [b2i_0, b2i_n0] at *); (try simp only [th_4, th_33] at *); grind)
          · skip
            have hno : ¬ (x = -1 ∧ y = -1) := b2i_0.mp (by assumption)
            rw [hs, nI_2] at hz57
            obtain ⟨an, han, rfl⟩ := nI_rng hz57.1 (by omega)
            have hxy := hz57.2.resolve_left hno
            obtain ⟨xn, hxn, rfl⟩ := nI_rng hxy.1 (by omega)
            obtain ⟨yn, hyn, rfl⟩ := nI_rng hxy.2 (by omega)
            simp (disch := omega) only [nI_clamp] at hc106
            refine v_aload_n dX4_hold_78 rfl rfl ?_
            refine v_iload_n dX4_hold_79 rfl rfl ?_
            refine v_iconst (v := 2) dX4_hold_80 (by decide) ?_
            refine v_idiv dX4_hold_81 (by decide) ?_
            rw [show (nI an / 2 : Int32) = nI (an / 2) from pk_div (d := 2) (by omega) (by decide) (by decide)]
            refine v_iload_n dX4_hold_82 rfl rfl ?_
            refine v_iconst (v := 2) dX4_hold_83 (by decide) ?_
            refine v_idiv dX4_hold_84 (by decide) ?_
            rw [show (nI xn / 2 : Int32) = nI (xn / 2) from pk_div (d := 2) (by omega) (by decide) (by decide)]
            refine v_pV mtX4_isBeside q1839 q1841 qs63 rfl (by decide) dX4_hold_85 (c_X4_isBeside hm (sN := sN) (hs) h3 ?_ ?_) (mK_obj hm) (by decide) ?_
            · omega
            · omega
            refine v_if_eq (tgt := 100) dX4_hold_88 (by decide) (fun b88 => ?_) (fun b88 => ?_)
            · skip
              rw [b2i_0] at b88
              refine v_aload_n dX4_hold_100 rfl rfl ?_
              refine v_iconst (v := nI 5) dX4_hold_101 (by decide) ?_
              refine v_zV mtX4_refuses q1793 q1795 qs58 rfl (by decide) dX4_hold_102 (c_X4_refuses hm ?_) (mK_obj hm) (by decide) (fun r102 h102 q102 z102 => ?_)
              · decide
              obtain ⟨rfl, rfl⟩ := q102
              refine v_reti dX4_hold_105 rfl ?_
              unfold sp_hold
              rw [← nI_2, ← hs] at hz57
              rw [if_neg (fun z => z hz57), if_neg (fun z => z hok), hs]
              simp (disch := omega) only [nI_clamp]
              have hnn : ¬ (((an / 2 + 1) % sN = xn / 2 ∨ (xn / 2 + 1) % sN = an / 2) ∧ ¬ (yn / 2 = an / 2)) := by first | exact fun z => b88 z.1 | exact fun z => z.2 ((nI_eq (by omega) (by omega)).mp b97)
              rw [if_pos ⟨hno, hnn⟩]
              exact ⟨rfl, rfl⟩
            · skip
              rw [b2i_n0] at b88
              refine v_iload_n dX4_hold_91 rfl rfl ?_
              refine v_iconst (v := 2) dX4_hold_92 (by decide) ?_
              refine v_idiv dX4_hold_93 (by decide) ?_
              rw [show (nI yn / 2 : Int32) = nI (yn / 2) from pk_div (d := 2) (by omega) (by decide) (by decide)]
              refine v_iload_n dX4_hold_94 rfl rfl ?_
              refine v_iconst (v := 2) dX4_hold_95 (by decide) ?_
              refine v_idiv dX4_hold_96 (by decide) ?_
              rw [show (nI an / 2 : Int32) = nI (an / 2) from pk_div (d := 2) (by omega) (by decide) (by decide)]
              refine v_icmp_ne (tgt := 106) dX4_hold_97 (by decide) (fun b97 => ?_) (fun b97 => ?_)
              · skip
                exact hc106 (by (try simp only [b2i_0, b2i_n0] at *); (try simp only [th_4, th_33] at *); grind)
              · skip
                refine v_aload_n dX4_hold_100 rfl rfl ?_
                refine v_iconst (v := nI 5) dX4_hold_101 (by decide) ?_
                refine v_zV mtX4_refuses q1793 q1795 qs58 rfl (by decide) dX4_hold_102 (c_X4_refuses hm ?_) (mK_obj hm) (by decide) (fun r102 h102 q102 z102 => ?_)
                · decide
                obtain ⟨rfl, rfl⟩ := q102
                refine v_reti dX4_hold_105 rfl ?_
                unfold sp_hold
                rw [← nI_2, ← hs] at hz57
                rw [if_neg (fun z => z hz57), if_neg (fun z => z hok), hs]
                simp (disch := omega) only [nI_clamp]
                have hnn : ¬ (((an / 2 + 1) % sN = xn / 2 ∨ (xn / 2 + 1) % sN = an / 2) ∧ ¬ (yn / 2 = an / 2)) := by first | exact fun z => b88 z.1 | exact fun z => z.2 ((nI_eq (by omega) (by omega)).mp b97)
                rw [if_pos ⟨hno, hnn⟩]
                exact ⟨rfl, rfl⟩
      · skip
        refine v_aload_n dX4_hold_67 rfl rfl ?_
        refine v_iconst (v := nI 2) dX4_hold_68 (by decide) ?_
        refine v_zV mtX4_refuses q1793 q1795 qs58 rfl (by decide) dX4_hold_69 (c_X4_refuses hm ?_) (mK_obj hm) (by decide) (fun r69 h69 q69 z69 => ?_)
        · decide
        obtain ⟨rfl, rfl⟩ := q69
        exact v_reti dX4_hold_72 rfl (by (try simp only [b2i_0, b2i_n0] at *); (try simp only [th_4, th_33] at *); unfold sp_hold; rw [if_neg (fun z => z hz57), if_pos b64]; exact ⟨rfl, rfl⟩)
    · skip
      refine v_cut 51 (¬ ((0 ≤ a ∧ a < 2 * hp_I h 241 4) ∧ ((x = -1 ∧ y = -1) ∨ ((0 ≤ x ∧ x < 2 * hp_I h 241 4) ∧ (0 ≤ y ∧ y < 2 * hp_I h 241 4))))) (fun hz51 => ?_) (fun hc51 => ?_)
      · skip
        refine v_aload_n dX4_hold_51 rfl rfl ?_
        refine v_iconst (v := nI 1) dX4_hold_52 (by decide) ?_
        refine v_zV mtX4_refuses q1793 q1795 qs58 rfl (by decide) dX4_hold_53 (c_X4_refuses hm ?_) (mK_obj hm) (by decide) (fun r53 h53 q53 z53 => ?_)
        · decide
        obtain ⟨rfl, rfl⟩ := q53
        exact v_reti dX4_hold_56 rfl (by unfold sp_hold; rw [if_pos hz51]; exact ⟨rfl, rfl⟩)
      · skip
        refine v_aload_n dX4_hold_22 rfl rfl ?_
        refine v_iload_n dX4_hold_23 rfl rfl ?_
        refine v_pV mtX4_isHand q1835 q1837 qs62 rfl (by decide) dX4_hold_24 (c_X4_isHand hm _) (mK_obj hm) (by decide) ?_
        refine v_if_eq (tgt := 51) dX4_hold_27 (by decide) (fun b27 => ?_) (fun b27 => ?_)
        · skip
          exact hc51 (by (try simp only [b2i_0, b2i_n0] at *); (try simp only [th_4, th_33] at *); grind)
        · skip
          refine v_iload dX4_hold_30 rfl ?_
          refine v_if_ne (tgt := 57) dX4_hold_32 (by decide) (fun b32 => ?_) (fun b32 => ?_)
          · skip
            exact hc57 (by (try simp only [b2i_0, b2i_n0] at *); (try simp only [th_4, th_33] at *); grind)
          · skip
            refine v_aload_n dX4_hold_35 rfl rfl ?_
            refine v_iload_n dX4_hold_36 rfl rfl ?_
            refine v_pV mtX4_isHand q1835 q1837 qs62 rfl (by decide) dX4_hold_37 (c_X4_isHand hm _) (mK_obj hm) (by decide) ?_
            refine v_if_eq (tgt := 51) dX4_hold_40 (by decide) (fun b40 => ?_) (fun b40 => ?_)
            · skip
              exact hc51 (by (try simp only [b2i_0, b2i_n0] at *); (try simp only [th_4, th_33] at *); grind)
            · skip
              refine v_aload_n dX4_hold_43 rfl rfl ?_
              refine v_iload_n dX4_hold_44 rfl rfl ?_
              refine v_pV mtX4_isHand q1835 q1837 qs62 rfl (by decide) dX4_hold_45 (c_X4_isHand hm _) (mK_obj hm) (by decide) ?_
              refine v_if_ne (tgt := 57) dX4_hold_48 (by decide) (fun b48 => ?_) (fun b48 => ?_)
              · skip
                exact hc57 (by (try simp only [b2i_0, b2i_n0] at *); (try simp only [th_4, th_33] at *); grind)
              · skip
                exact hc51 (by (try simp only [b2i_0, b2i_n0] at *); (try simp only [th_4, th_33] at *); grind)
  · skip
    refine v_iload_n dX4_hold_5 rfl rfl ?_
    refine v_iconst (v := (-1)) dX4_hold_6 (by decide) ?_
    refine v_icmp_ne (tgt := 19) dX4_hold_7 (by decide) (fun b7 => ?_) (fun b7 => ?_)
    · skip
      refine v_iconst (v := 0) dX4_hold_19 (by decide) ?_
      exact hj20 _ (by first | rfl | exact (b2i_t (by first | assumption | omega | grind)).symm | exact (b2i_f (by first | assumption | omega | grind)).symm)
    · skip
      refine v_iload_n dX4_hold_10 rfl rfl ?_
      refine v_iconst (v := (-1)) dX4_hold_11 (by decide) ?_
      refine v_icmp_ne (tgt := 19) dX4_hold_12 (by decide) (fun b12 => ?_) (fun b12 => ?_)
      · skip
        refine v_iconst (v := 0) dX4_hold_19 (by decide) ?_
        exact hj20 _ (by first | rfl | exact (b2i_t (by first | assumption | omega | grind)).symm | exact (b2i_f (by first | assumption | omega | grind)).symm)
      · skip
        refine v_iconst (v := 1) dX4_hold_15 (by decide) ?_
        refine v_goto (tgt := 20) dX4_hold_16 (by decide) ?_
        exact hj20 _ (by first | rfl | exact (b2i_t (by first | assumption | omega | grind)).symm | exact (b2i_f (by first | assumption | omega | grind)).symm)

