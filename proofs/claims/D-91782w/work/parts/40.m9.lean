set_option maxRecDepth 100000
theorem le_pred {x : Int32} {n : Nat} (hn : n < 2 ^ 31) : (0 ≤ x ∧ x ≤ nI n - 1) ↔ (0 ≤ x ∧ x < nI n) := by
  rcases n with _ | m
  · have e : nI 0 - 1 = -1 := by decide
    rw [e, show nI 0 = 0 from rfl]
    constructor
    · rintro ⟨a, b⟩; exact absurd (Int32.le_trans a b) (by decide)
    · rintro ⟨a, b⟩; exact absurd b (Int32.not_lt.mpr a)
  · rw [nI_pred]
    constructor
    · rintro ⟨a, b⟩
      refine ⟨a, ?_⟩
      rw [Int32.le_iff_toInt_le, nI_toInt (by omega)] at b
      rw [Int32.lt_iff_toInt_lt, nI_toInt hn]; omega
    · rintro ⟨a, b⟩
      refine ⟨a, ?_⟩
      rw [Int32.lt_iff_toInt_lt, nI_toInt hn] at b
      rw [Int32.le_iff_toInt_le, nI_toInt (by omega)]; omega
noncomputable def sp_saw (h : AH) (nC : Nat) (m p : Int32) (hx : AH) : Int32 × AH :=
  (cf_ ((0 ≤ m ∧ m < hp_I h 243 4882) ∧ (0 ≤ p ∧ p < hp_I h 241 4) ∧ ¬ (hp_I h 243 (4680 + 5 * m.toNatClampNeg)).toNatClampNeg / 2 = p.toNatClampNeg) (b2c (sw_ (hp_I h 243) (ct_ h) nC 0 m.toNatClampNeg p.toNatClampNeg)) (-1), hx)
noncomputable def sp_at (h : AH) (sN nC : Nat) (w x s : Int32) (hx : AH) : Int32 × AH :=
  (cf_ (¬ ((0 ≤ s ∧ s ≤ 99) ∧ (0 ≤ w ∧ w ≤ 5))) (-1) (cf_ (w = 0) (hp_I h 243 s.toNatClampNeg) (cf_ (w = 1 ∨ w = 5) (cf_ (¬ (0 ≤ x ∧ x < hp_I h 241 4)) (-1) (cf_ (w = 1) (eyes_ (hp_I h 243) (ct_ h) nC 0 x.toNatClampNeg s.toNatClampNeg) (b2c (¬ lb_ (hp_I h 243) x.toNatClampNeg s.toNatClampNeg (nLed (hp_I h 243)) = -1))))
    (cf_ (¬ (0 ≤ x ∧ x < 2 * hp_I h 241 4)) (-1) (cf_ (w = 2) (b2c (free_ (hp_I h 243) (ct_ h) nC sN 0 x.toNatClampNeg s.toNatClampNeg)) (cf_ (w = 3) (hp_I h 243 (1070 + 100 * x.toNatClampNeg + s.toNatClampNeg)) (hp_I h 243 (2870 + 100 * x.toNatClampNeg + s.toNatClampNeg))))))), hx)
noncomputable def sp_vouch (h : AH) (sN nC : Nat) (a s tr : Int32) (hx : AH) : Int32 × AH :=
  (cf_ ((0 ≤ a ∧ a < 2 * hp_I h 241 4) ∧ (0 ≤ s ∧ s ≤ 99)) (nI (vo_ (hp_I h 243) (ct_ h) nC sN 0 (cf_ (tr = 0) 1070 2870) a.toNatClampNeg s.toNatClampNeg)) (-1), hx)
theorem c_X4_saw {G : Gv} {h : AH} {sN nC : Nat} (hS : MS_ h sN nC) (m p : Int32) : Ctr G 5 yX4_saw cX4_saw 3 (some .int) [.ref 241, .int m, .int p] h 0 0 (Pf h (sp_saw h nC m p)) := by
  refine ctr_of (own := RX4) (nm := "saw") (by decide) (Nat.le_of_ble_eq_true rfl) ?_
  have hm := hS.1
  have hS0 := MS_th hS
  have hs := hS.2.1
  have hv := hS.2.2.1
  have h3 := sv_s hv
  have hpt := fp_th h
  obtain ⟨hM1, hM2⟩ := sv_mov hv
  refine v_aload_n dX4_saw_0 rfl rfl ?_
  refine v_iconst (v := 0) dX4_saw_1 (by decide) ?_
  refine v_thr fX4_1 dX4_saw_2 hm ?_
  have hm := MI_th hm
  refine v_cut 47 ((0 ≤ m ∧ m < hp_I h 243 4882) ∧ (0 ≤ p ∧ p < hp_I h 241 4) ∧ ¬ (hp_I h 243 (4680 + 5 * m.toNatClampNeg)).toNatClampNeg / 2 = p.toNatClampNeg) (fun hz47 => ?_) (fun hc47 => ?_)
  · skip
    rw [hM2] at hz47
    obtain ⟨mn, hmn, rfl⟩ := nI_rng hz47.1 (by omega)
    have hz9 := hz47.2.1
    rw [hs] at hz9
    obtain ⟨pn, hpn, rfl⟩ := nI_rng hz9 (by omega)
    have hv0 := hS0.2.2.1
    have hmn9 : mn < nMov (hp_I (th_ h) 243) := by rw [th_33]; exact hmn
    refine v_aload_n dX4_saw_47 rfl rfl ?_
    refine v_iconst (v := nI 0) dX4_saw_48 (by decide) ?_
    refine v_zV mtX4_lays q1855 q1857 qs65 rfl (by decide) dX4_saw_49 (c_lays hS0 _) (mK_obj hm) (by decide) (fun r49 h49 q49 z49 => ?_)
    obtain ⟨rfl, hL⟩ := q49
    have hL : LY_ (th_ h) nC sN 0 h49 := hL
    have hm : MI h49 := (MS_fr hS0 hL.1).1
    have hpx : fp_ h h49 := fp_tr (fp_th h) (fp_fr hL.1)
    refine v_aload_n dX4_saw_52 rfl rfl ?_
    refine v_iload_n dX4_saw_53 rfl rfl ?_
    refine v_iload_n dX4_saw_54 rfl rfl ?_
    refine v_pV mtX4_sawIt q1894 q1896 qs72 rfl (by decide) dX4_saw_55 (c_X4_sawIt hS0 hL hmn9 ?_) (mK_obj hm) (by decide) ?_
    · omega
    rw [th_33, th_ct]
    refine v_if_eq (tgt := 65) dX4_saw_58 (by decide) (fun b58 => ?_) (fun b58 => ?_)
    · skip
      refine v_iconst (v := 0) dX4_saw_65 (by decide) ?_
      refine v_reti dX4_saw_66 rfl ⟨_, hpx, ?_, rfl⟩
      unfold sp_saw
      rw [hM2, cf_t hz47, nI_clamp (by omega), nI_clamp (by omega)]
      first | (rw [b2c_n0] at b58; rw [b2c_t b58]) | (rw [b2c_0] at b58; rw [b2c_f b58])
    · skip
      refine v_iconst (v := 1) dX4_saw_61 (by decide) ?_
      refine v_goto (tgt := 66) dX4_saw_62 (by decide) ?_
      refine v_reti dX4_saw_66 rfl ⟨_, hpx, ?_, rfl⟩
      unfold sp_saw
      rw [hM2, cf_t hz47, nI_clamp (by omega), nI_clamp (by omega)]
      first | (rw [b2c_n0] at b58; rw [b2c_t b58]) | (rw [b2c_0] at b58; rw [b2c_f b58])
  · skip
    refine v_cut 45 (¬ ((0 ≤ m ∧ m < hp_I h 243 4882) ∧ (0 ≤ p ∧ p < hp_I h 241 4) ∧ ¬ (hp_I h 243 (4680 + 5 * m.toNatClampNeg)).toNatClampNeg / 2 = p.toNatClampNeg)) (fun hz45 => ?_) (fun hc45 => ?_)
    · skip
      refine v_iconst (v := (-1)) dX4_saw_45 (by decide) ?_
      exact v_reti dX4_saw_46 rfl ⟨_, hpt, congrArg (fun z => some (Value.int z)) (cf_f hz45).symm, rfl⟩
    · skip
      refine v_iload_n dX4_saw_5 rfl rfl ?_
      refine v_i2l dX4_saw_6 ?_
      refine v_lconst (v := (0 : Int32).toInt64) dX4_saw_7 (by decide) ?_
      refine v_aload_n dX4_saw_8 rfl rfl ?_
      refine v_getR fX4_17 dX4_saw_9 (mK_obj hm) (mR_all hm) ?_ fcA_I
      refine v_sipush (v := 4882) dX4_saw_12 (by decide) ?_
      refine v_iald dX4_saw_15 (mK_all hm) (ix_lit _) (by first | assumption | omega) ?_
      rw [th_33, hM2]
      refine v_iconst (v := 1) dX4_saw_16 (by decide) ?_
      refine v_isub dX4_saw_17 ?_
      refine v_i2l dX4_saw_18 ?_
      refine v_pS mtX4_within q1790 q1791 dX4_saw_19 (c_X4_within _ _ _) (by decide) ?_
      refine v_if_eq (tgt := 45) dX4_saw_22 (by decide) (fun b22 => ?_) (fun b22 => ?_)
      · skip
        exact hc45 (by rw [hM2]; first | (rw [b2i_0, le_pred (by omega)] at b22; exact fun z => b22 z.1) | (rw [b2i_0, th_4] at b30; exact fun z => b30 z.2.1) | (rw [nI_clamp (by omega), ea, nI_clamp (by omega), nI_clamp (by omega)]; rw [nI_eq (by omega) (by omega)] at b42; exact fun z => z.2.2 b42))
      · skip
        rw [b2i_n0, le_pred (by omega)] at b22
        obtain ⟨mn, hmn, rfl⟩ := nI_rng b22 (by omega)
        refine v_aload_n dX4_saw_25 rfl rfl ?_
        refine v_iload_n dX4_saw_26 rfl rfl ?_
        refine v_pV mtX4_isPerson q1801 q1803 qs59 rfl (by decide) dX4_saw_27 (c_X4_isPerson hm _) (mK_obj hm) (by decide) ?_
        refine v_if_eq (tgt := 45) dX4_saw_30 (by decide) (fun b30 => ?_) (fun b30 => ?_)
        · skip
          exact hc45 (by rw [hM2]; first | (rw [b2i_0, le_pred (by omega)] at b22; exact fun z => b22 z.1) | (rw [b2i_0, th_4] at b30; exact fun z => b30 z.2.1) | (rw [nI_clamp (by omega), ea, nI_clamp (by omega), nI_clamp (by omega)]; rw [nI_eq (by omega) (by omega)] at b42; exact fun z => z.2.2 b42))
        · skip
          rw [b2i_n0, th_4, hs] at b30
          obtain ⟨pn, hpn, rfl⟩ := nI_rng b30 (by omega)
          obtain ⟨⟨a, ha, ea⟩, -⟩ := sv_move hv hmn
          have ea9 : hp_I (th_ h) 243 (4680 + 5 * mn + 0) = nI a := by rw [th_33]; exact ea
          refine v_aload_n dX4_saw_33 rfl rfl ?_
          refine v_iload_n dX4_saw_34 rfl rfl ?_
          refine v_iconst (v := nI 0) dX4_saw_35 (by decide) ?_
          refine v_pV mtX4_moveOf q1878 q1880 qs70 rfl (by decide) dX4_saw_36 (c_X4_moveOf hm ?_) (mK_obj hm) (by decide) ?_
          · omega
          rw [ea9]
          refine v_iconst (v := 2) dX4_saw_39 (by decide) ?_
          refine v_idiv dX4_saw_40 (by decide) ?_
          rw [show (nI a / 2 : Int32) = nI (a / 2) from pk_div (d := 2) (by omega) (by decide) (by decide)]
          refine v_iload_n dX4_saw_41 rfl rfl ?_
          refine v_icmp_ne (tgt := 47) dX4_saw_42 (by decide) (fun b42 => ?_) (fun b42 => ?_)
          · skip
            exact hc47 (by rw [hM2, hs, nI_clamp (by omega), nI_clamp (by omega), ea, nI_clamp (by omega)]; rw [nI_eq (by omega) (by omega)] at b42; exact ⟨b22, b30, b42⟩)
          · skip
            exact hc45 (by rw [hM2]; first | (rw [b2i_0, le_pred (by omega)] at b22; exact fun z => b22 z.1) | (rw [b2i_0, th_4] at b30; exact fun z => b30 z.2.1) | (rw [nI_clamp (by omega), ea, nI_clamp (by omega), nI_clamp (by omega)]; rw [nI_eq (by omega) (by omega)] at b42; exact fun z => z.2.2 b42))

theorem c_X4_vouch {G : Gv} {h : AH} {sN nC : Nat} (hS : MS_ h sN nC) (a s tr : Int32) : Ctr G 5 yX4_vouch cX4_vouch 4 (some .int) [.ref 241, .int a, .int s, .int tr] h 0 0 (Pf h (sp_vouch h sN nC a s tr)) := by
  refine ctr_of (own := RX4) (nm := "vouch") (by decide) (Nat.le_of_ble_eq_true rfl) ?_
  have hm := hS.1
  have hS0 := MS_th hS
  have hs := hS.2.1
  have hv := hS.2.2.1
  have h3 := sv_s hv
  have hpt := fp_th h
  refine v_aload_n dX4_vouch_0 rfl rfl ?_
  refine v_iconst (v := 0) dX4_vouch_1 (by decide) ?_
  refine v_thr fX4_1 dX4_vouch_2 hm ?_
  have hm := MI_th hm
  refine v_cut 22 ((0 ≤ a ∧ a < 2 * hp_I h 241 4) ∧ (0 ≤ s ∧ s ≤ 99)) (fun hz22 => ?_) (fun hc22 => ?_)
  · skip
    have hz9 := hz22
    rw [hs, nI_2] at hz9
    obtain ⟨an, han, rfl⟩ := nI_rng hz9.1 (by omega)
    obtain ⟨sn, hsn, rfl⟩ := sec1 hz9.2
    refine v_aload_n dX4_vouch_22 rfl rfl ?_
    refine v_iconst (v := nI 0) dX4_vouch_23 (by decide) ?_
    refine v_zV mtX4_lays q1855 q1857 qs65 rfl (by decide) dX4_vouch_24 (c_lays hS0 _) (mK_obj hm) (by decide) (fun r24 h24 q24 z24 => ?_)
    obtain ⟨rfl, hL⟩ := q24
    have hL : LY_ (th_ h) nC sN 0 h24 := hL
    have hm : MI h24 := (MS_fr hS0 hL.1).1
    have hpx : fp_ h h24 := fp_tr (fp_th h) (fp_fr hL.1)
    refine v_iload_n dX4_vouch_27 rfl rfl ?_
    refine v_if_eq (tgt := 45) dX4_vouch_28 (by decide) (fun b28 => ?_) (fun b28 => ?_)
    · skip
      refine v_aload_n dX4_vouch_45 rfl rfl ?_
      refine v_iload_n dX4_vouch_46 rfl rfl ?_
      refine v_iload_n dX4_vouch_47 rfl rfl ?_
      refine v_pV mtX4_sayers q1907 q1909 qs73 rfl (by decide) dX4_vouch_48 (c_X4_sayers hS0 hL ?_ ?_) (mK_obj hm) (by decide) ?_
      · omega
      · omega
      rw [th_33, th_ct]
      refine v_reti dX4_vouch_51 rfl ⟨_, hpx, ?_, rfl⟩
      unfold sp_vouch
      rw [cf_t hz22, nI_clamp (by omega), nI_clamp (by omega)]
      first | rw [cf_t b28] | rw [cf_f b28]
    · skip
      refine v_aload_n dX4_vouch_31 rfl rfl ?_
      refine v_getR fX4_36 dX4_vouch_32 (mK_obj hm) (mR_vouched hm) ?_ fcA_I
      refine v_bipush (v := 100) dX4_vouch_35 (by decide) ?_
      refine v_iload_n dX4_vouch_37 rfl rfl ?_
      refine v_imul dX4_vouch_38 ?_
      refine v_iload_n dX4_vouch_39 rfl rfl ?_
      refine v_iadd dX4_vouch_40 ?_
      refine v_iald dX4_vouch_41 (mK_vouched hm) (ix_add (ix_mul (ix_lit _) rfl) rfl) (by first | assumption | omega) ?_
      rw [LY_vou hS0.2.2.1 hL han (by omega), th_33, th_ct]
      refine v_goto (tgt := 51) dX4_vouch_42 (by decide) ?_
      refine v_reti dX4_vouch_51 rfl ⟨_, hpx, ?_, rfl⟩
      unfold sp_vouch
      rw [cf_t hz22, nI_clamp (by omega), nI_clamp (by omega)]
      first | rw [cf_t b28] | rw [cf_f b28]
  · skip
    refine v_cut 20 (¬ ((0 ≤ a ∧ a < 2 * hp_I h 241 4) ∧ (0 ≤ s ∧ s ≤ 99))) (fun hz20 => ?_) (fun hc20 => ?_)
    · skip
      refine v_iconst (v := (-1)) dX4_vouch_20 (by decide) ?_
      exact v_reti dX4_vouch_21 rfl ⟨_, hpt, congrArg (fun z => some (Value.int z)) (cf_f hz20).symm, rfl⟩
    · skip
      refine v_aload_n dX4_vouch_5 rfl rfl ?_
      refine v_iload_n dX4_vouch_6 rfl rfl ?_
      refine v_pV mtX4_isHand q1835 q1837 qs62 rfl (by decide) dX4_vouch_7 (c_X4_isHand hm _) (mK_obj hm) (by decide) ?_
      refine v_if_eq (tgt := 20) dX4_vouch_10 (by decide) (fun b10 => ?_) (fun b10 => ?_)
      · skip
        exact hc20 (by (try simp only [b2i_0, b2i_n0, b2c_0, b2c_n0] at *); (try simp only [th_4, th_33] at *); grind)
      · skip
        refine v_iload_n dX4_vouch_13 rfl rfl ?_
        refine v_pS mtX4_isSecond q1812 q1813 dX4_vouch_14 (c_X4_isSecond _) (by decide) ?_
        refine v_if_ne (tgt := 22) dX4_vouch_17 (by decide) (fun b17 => ?_) (fun b17 => ?_)
        · skip
          exact hc22 (by (try simp only [b2i_0, b2i_n0, b2c_0, b2c_n0] at *); (try simp only [th_4, th_33] at *); grind)
        · skip
          exact hc20 (by (try simp only [b2i_0, b2i_n0, b2c_0, b2c_n0] at *); (try simp only [th_4, th_33] at *); grind)

theorem c_X4_at {G : Gv} {h : AH} {sN nC : Nat} (hS : MS_ h sN nC) (w x s : Int32) : Ctr G 5 yX4_at cX4_at 4 (some .int) [.ref 241, .int w, .int x, .int s] h 0 0 (Pf h (sp_at h sN nC w x s)) := by
  refine ctr_of (own := RX4) (nm := "at") (by decide) (Nat.le_of_ble_eq_true rfl) ?_
  have hm := hS.1
  have hS0 := MS_th hS
  have hs := hS.2.1
  have hv := hS.2.2.1
  have h3 := sv_s hv
  have hpt := fp_th h
  refine v_aload_n dX4_at_0 rfl rfl ?_
  refine v_iconst (v := 0) dX4_at_1 (by decide) ?_
  refine v_thr fX4_1 dX4_at_2 hm ?_
  have hm := MI_th hm
  refine v_cut 26 ((0 ≤ s ∧ s ≤ 99) ∧ (0 ≤ w ∧ w ≤ 5)) (fun hz26 => ?_) (fun hc26 => ?_)
  · skip
    obtain ⟨sn, hsn, rfl⟩ := sec1 hz26.1
    refine v_iload_n dX4_at_26 rfl rfl ?_
    refine v_if_ne (tgt := 39) dX4_at_27 (by decide) (fun b27 => ?_) (fun b27 => ?_)
    · skip
      refine v_cut 49 (w = 1 ∨ w = 5) (fun hz49 => ?_) (fun hc49 => ?_)
      · skip
        refine v_aload_n dX4_at_49 rfl rfl ?_
        refine v_iload_n dX4_at_50 rfl rfl ?_
        refine v_pV mtX4_isPerson q1801 q1803 qs59 rfl (by decide) dX4_at_51 (c_X4_isPerson hm _) (mK_obj hm) (by decide) ?_
        refine v_if_ne (tgt := 59) dX4_at_54 (by decide) (fun b54 => ?_) (fun b54 => ?_)
        · skip
          rw [b2i_n0, th_4] at b54
          have hx9 := b54
          rw [hs] at hx9
          obtain ⟨pn, hpn, rfl⟩ := nI_rng hx9 (by omega)
          refine v_iload_n dX4_at_59 rfl rfl ?_
          refine v_iconst (v := 1) dX4_at_60 (by decide) ?_
          refine v_icmp_ne (tgt := 74) dX4_at_61 (by decide) (fun b61 => ?_) (fun b61 => ?_)
          · skip
            refine v_aload_n dX4_at_74 rfl rfl ?_
            refine v_iload_n dX4_at_75 rfl rfl ?_
            refine v_iload_n dX4_at_76 rfl rfl ?_
            refine v_pV mtX4_leadOf q1870 q1872 qs68 rfl (by decide) dX4_at_77 (c_X4_leadOf hm hS0.2.2.1 ?_ ?_) (mK_obj hm) (by decide) ?_
            · omega
            · omega
            rw [th_33]
            refine v_iconst (v := (-1)) dX4_at_80 (by decide) ?_
            refine v_icmp_ne (tgt := 88) dX4_at_81 (by decide) (fun b81 => ?_) (fun b81 => ?_)
            · skip
              refine v_iconst (v := 1) dX4_at_88 (by decide) ?_
              refine v_reti dX4_at_89 rfl ⟨_, hpt, ?_, rfl⟩
              unfold sp_at; rw [cf_f (fun z => z hz26)]; rw [cf_f b27, cf_t hz49, cf_f (fun z => z b54), nI_clamp (by omega), nI_clamp (by omega)]
              first | (rw [cf_t b61]; rfl) | (rw [cf_f b61]; first | rw [b2c_t b81] | rw [b2c_f (fun z => z b81)])
            · skip
              refine v_iconst (v := 0) dX4_at_84 (by decide) ?_
              refine v_goto (tgt := 89) dX4_at_85 (by decide) ?_
              refine v_reti dX4_at_89 rfl ⟨_, hpt, ?_, rfl⟩
              unfold sp_at; rw [cf_f (fun z => z hz26)]; rw [cf_f b27, cf_t hz49, cf_f (fun z => z b54), nI_clamp (by omega), nI_clamp (by omega)]
              first | (rw [cf_t b61]; rfl) | (rw [cf_f b61]; first | rw [b2c_t b81] | rw [b2c_f (fun z => z b81)])
          · skip
            refine v_aload_n dX4_at_64 rfl rfl ?_
            refine v_iload_n dX4_at_65 rfl rfl ?_
            refine v_iload_n dX4_at_66 rfl rfl ?_
            refine v_iconst (v := nI 0) dX4_at_67 (by decide) ?_
            refine v_pV mtX4_eyesOf q1862 q1864 qs66 rfl (by decide) dX4_at_68 (c_X4_eyesOf hm hS0.2.2.1 hS0.2.2.2.1 hS0.2.2.2.2.1 ?_ ?_ _) (mK_obj hm) (by decide) ?_
            · omega
            · omega
            rw [th_33, th_ct]
            refine v_goto (tgt := 89) dX4_at_71 (by decide) ?_
            refine v_reti dX4_at_89 rfl ⟨_, hpt, ?_, rfl⟩
            unfold sp_at; rw [cf_f (fun z => z hz26)]; rw [cf_f b27, cf_t hz49, cf_f (fun z => z b54), nI_clamp (by omega), nI_clamp (by omega)]
            first | (rw [cf_t b61]; rfl) | (rw [cf_f b61]; first | rw [b2c_t b81] | rw [b2c_f (fun z => z b81)])
        · skip
          refine v_iconst (v := (-1)) dX4_at_57 (by decide) ?_
          refine v_reti dX4_at_58 rfl ⟨_, hpt, ?_, rfl⟩
          unfold sp_at; rw [cf_f (fun z => z hz26)]; rw [b2i_0, th_4] at b54; rw [cf_f b27, cf_t hz49, cf_t b54]
      · skip
        refine v_cut 90 (¬ (w = 1 ∨ w = 5)) (fun hz90 => ?_) (fun hc90 => ?_)
        · skip
          refine v_aload_n dX4_at_90 rfl rfl ?_
          refine v_iload_n dX4_at_91 rfl rfl ?_
          refine v_pV mtX4_isHand q1835 q1837 qs62 rfl (by decide) dX4_at_92 (c_X4_isHand hm _) (mK_obj hm) (by decide) ?_
          refine v_if_ne (tgt := 100) dX4_at_95 (by decide) (fun b95 => ?_) (fun b95 => ?_)
          · skip
            rw [b2i_n0, th_4] at b95
            have hx9 := b95
            rw [hs, nI_2] at hx9
            obtain ⟨an, han, rfl⟩ := nI_rng hx9 (by omega)
            refine v_aload_n dX4_at_100 rfl rfl ?_
            refine v_iconst (v := nI 0) dX4_at_101 (by decide) ?_
            refine v_zV mtX4_lays q1855 q1857 qs65 rfl (by decide) dX4_at_102 (c_lays hS0 _) (mK_obj hm) (by decide) (fun r102 h102 q102 z102 => ?_)
            obtain ⟨rfl, hL⟩ := q102
            have hL : LY_ (th_ h) nC sN 0 h102 := hL
            have hm : MI h102 := (MS_fr hS0 hL.1).1
            have hpx : fp_ h h102 := fp_tr (fp_th h) (fp_fr hL.1)
            refine v_iload_n dX4_at_105 rfl rfl ?_
            refine v_iconst (v := 2) dX4_at_106 (by decide) ?_
            refine v_icmp_ne (tgt := 132) dX4_at_107 (by decide) (fun b107 => ?_) (fun b107 => ?_)
            · skip
              refine v_aload_n dX4_at_132 rfl rfl ?_
              refine v_getR fX4_17 dX4_at_133 (mK_obj hm) (mR_all hm) ?_ fcA_I
              refine v_iload_n dX4_at_136 rfl rfl ?_
              refine v_iconst (v := 3) dX4_at_137 (by decide) ?_
              refine v_icmp_ne (tgt := 147) dX4_at_138 (by decide) (fun b138 => ?_) (fun b138 => ?_)
              · skip
                refine v_sipush (v := 2870) dX4_at_147 (by decide) ?_
                refine v_bipush (v := 100) dX4_at_150 (by decide) ?_
                refine v_iload_n dX4_at_152 rfl rfl ?_
                refine v_imul dX4_at_153 ?_
                refine v_iadd dX4_at_154 ?_
                refine v_iload_n dX4_at_155 rfl rfl ?_
                refine v_iadd dX4_at_156 ?_
                refine v_iald dX4_at_157 (mK_all hm) (ix_add (ix_add (ix_lit _) (ix_mul (ix_lit _) rfl)) rfl) (by first | assumption | omega) ?_
                rw [fr_33 hL.1, th_33]
                refine v_reti dX4_at_158 rfl ⟨_, hpx, ?_, rfl⟩
                unfold sp_at; rw [cf_f (fun z => z hz26)]; rw [cf_f b27, cf_f hz90, cf_f (fun z => z b95), nI_clamp (by omega), nI_clamp (by omega)]
                first | (rw [cf_t b107]; first | (rw [b2c_n0] at b121; rw [b2c_t b121]) | (rw [b2c_0] at b121; rw [b2c_f b121])) | (rw [cf_f b107]; first | (rw [cf_t b138]) | (rw [cf_f b138]))
              · skip
                refine v_sipush (v := 1070) dX4_at_141 (by decide) ?_
                refine v_goto (tgt := 150) dX4_at_144 (by decide) ?_
                refine v_bipush (v := 100) dX4_at_150 (by decide) ?_
                refine v_iload_n dX4_at_152 rfl rfl ?_
                refine v_imul dX4_at_153 ?_
                refine v_iadd dX4_at_154 ?_
                refine v_iload_n dX4_at_155 rfl rfl ?_
                refine v_iadd dX4_at_156 ?_
                refine v_iald dX4_at_157 (mK_all hm) (ix_add (ix_add (ix_lit _) (ix_mul (ix_lit _) rfl)) rfl) (by first | assumption | omega) ?_
                rw [fr_33 hL.1, th_33]
                refine v_reti dX4_at_158 rfl ⟨_, hpx, ?_, rfl⟩
                unfold sp_at; rw [cf_f (fun z => z hz26)]; rw [cf_f b27, cf_f hz90, cf_f (fun z => z b95), nI_clamp (by omega), nI_clamp (by omega)]
                first | (rw [cf_t b107]; first | (rw [b2c_n0] at b121; rw [b2c_t b121]) | (rw [b2c_0] at b121; rw [b2c_f b121])) | (rw [cf_f b107]; first | (rw [cf_t b138]) | (rw [cf_f b138]))
            · skip
              refine v_aload_n dX4_at_110 rfl rfl ?_
              refine v_getR fX4_45 dX4_at_111 (mK_obj hm) (mR_isFree hm) ?_ fcA_Z
              refine v_bipush (v := 100) dX4_at_114 (by decide) ?_
              refine v_iload_n dX4_at_116 rfl rfl ?_
              refine v_imul dX4_at_117 ?_
              refine v_iload_n dX4_at_118 rfl rfl ?_
              refine v_iadd dX4_at_119 ?_
              refine v_zald dX4_at_120 (mK_isFree hm) (ix_add (ix_mul (ix_lit _) rfl) rfl) (by first | assumption | omega) ?_
              rw [LY_free hL han (by omega), th_33, th_ct]
              refine v_if_eq (tgt := 128) dX4_at_121 (by decide) (fun b121 => ?_) (fun b121 => ?_)
              · skip
                refine v_iconst (v := 0) dX4_at_128 (by decide) ?_
                refine v_goto (tgt := 158) dX4_at_129 (by decide) ?_
                refine v_reti dX4_at_158 rfl ⟨_, hpx, ?_, rfl⟩
                unfold sp_at; rw [cf_f (fun z => z hz26)]; rw [cf_f b27, cf_f hz90, cf_f (fun z => z b95), nI_clamp (by omega), nI_clamp (by omega)]
                first | (rw [cf_t b107]; first | (rw [b2c_n0] at b121; rw [b2c_t b121]) | (rw [b2c_0] at b121; rw [b2c_f b121])) | (rw [cf_f b107]; first | (rw [cf_t b138]) | (rw [cf_f b138]))
              · skip
                refine v_iconst (v := 1) dX4_at_124 (by decide) ?_
                refine v_goto (tgt := 158) dX4_at_125 (by decide) ?_
                refine v_reti dX4_at_158 rfl ⟨_, hpx, ?_, rfl⟩
                unfold sp_at; rw [cf_f (fun z => z hz26)]; rw [cf_f b27, cf_f hz90, cf_f (fun z => z b95), nI_clamp (by omega), nI_clamp (by omega)]
                first | (rw [cf_t b107]; first | (rw [b2c_n0] at b121; rw [b2c_t b121]) | (rw [b2c_0] at b121; rw [b2c_f b121])) | (rw [cf_f b107]; first | (rw [cf_t b138]) | (rw [cf_f b138]))
          · skip
            refine v_iconst (v := (-1)) dX4_at_98 (by decide) ?_
            refine v_reti dX4_at_99 rfl ⟨_, hpt, ?_, rfl⟩
            unfold sp_at; rw [cf_f (fun z => z hz26)]; rw [b2i_0, th_4] at b95; rw [cf_f b27, cf_f hz90, cf_t b95]
        · skip
          refine v_iload_n dX4_at_39 rfl rfl ?_
          refine v_iconst (v := 1) dX4_at_40 (by decide) ?_
          refine v_icmp_eq (tgt := 49) dX4_at_41 (by decide) (fun b41 => ?_) (fun b41 => ?_)
          · skip
            exact hc49 (by grind)
          · skip
            refine v_iload_n dX4_at_44 rfl rfl ?_
            refine v_iconst (v := 5) dX4_at_45 (by decide) ?_
            refine v_icmp_ne (tgt := 90) dX4_at_46 (by decide) (fun b46 => ?_) (fun b46 => ?_)
            · skip
              exact hc90 (by grind)
            · skip
              exact hc49 (by grind)
    · skip
      refine v_aload_n dX4_at_30 rfl rfl ?_
      refine v_getR fX4_17 dX4_at_31 (mK_obj hm) (mR_all hm) ?_ fcA_I
      refine v_iconst (v := 0) dX4_at_34 (by decide) ?_
      refine v_iload_n dX4_at_35 rfl rfl ?_
      refine v_iadd dX4_at_36 ?_
      refine v_iald dX4_at_37 (mK_all hm) (ix_add (ix_lit _) rfl) (by first | assumption | omega) ?_
      rw [th_33, show (0 + sn : Nat) = sn from Nat.zero_add sn]
      refine v_reti dX4_at_38 rfl ⟨_, hpt, ?_, rfl⟩
      unfold sp_at; rw [cf_f (fun z => z hz26)]; rw [cf_t b27, nI_clamp (by omega)]
  · skip
    refine v_cut 24 (¬ ((0 ≤ s ∧ s ≤ 99) ∧ (0 ≤ w ∧ w ≤ 5))) (fun hz24 => ?_) (fun hc24 => ?_)
    · skip
      refine v_iconst (v := (-1)) dX4_at_24 (by decide) ?_
      exact v_reti dX4_at_25 rfl ⟨_, hpt, congrArg (fun z => some (Value.int z)) (cf_t hz24).symm, rfl⟩
    · skip
      refine v_iload_n dX4_at_5 rfl rfl ?_
      refine v_pS mtX4_isSecond q1812 q1813 dX4_at_6 (c_X4_isSecond _) (by decide) ?_
      refine v_if_eq (tgt := 24) dX4_at_9 (by decide) (fun b9 => ?_) (fun b9 => ?_)
      · skip
        exact hc24 (by (try simp only [b2i_0, b2i_n0, b2c_0, b2c_n0] at *); (try simp only [th_4, th_33] at *); grind)
      · skip
        refine v_iload_n dX4_at_12 rfl rfl ?_
        refine v_i2l dX4_at_13 ?_
        refine v_lconst (v := (0 : Int32).toInt64) dX4_at_14 (by decide) ?_
        refine v_ldc2 (v := (5 : Int32).toInt64) q1902 dX4_at_15 (by decide) ?_
        refine v_pS mtX4_within q1790 q1791 dX4_at_18 (c_X4_within _ _ _) (by decide) ?_
        refine v_if_ne (tgt := 26) dX4_at_21 (by decide) (fun b21 => ?_) (fun b21 => ?_)
        · skip
          exact hc26 (by (try simp only [b2i_0, b2i_n0, b2c_0, b2c_n0] at *); (try simp only [th_4, th_33] at *); grind)
        · skip
          exact hc24 (by (try simp only [b2i_0, b2i_n0, b2c_0, b2c_n0] at *); (try simp only [th_4, th_33] at *); grind)

