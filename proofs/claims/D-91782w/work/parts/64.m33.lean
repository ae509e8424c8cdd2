set_option maxRecDepth 100000
def bb_ (h : AH) (sN nC P : Nat) : Nat → Nat → Nat → Prop := fun i τ x => br_ (hp_I h 243) (ct_ h) nC sN 0 P i τ x
noncomputable def bx_ (h : AH) (th a : Nat) : Nat := (wh_ (hp_I h 243) th (nI a) (nMov (hp_I h 243))).toNatClampNeg
noncomputable def bsn_ (h : AH) (sN nC P th g a b n : Nat) : Nat := so_ (bb_ h sN nC P) (2 * sN) sN (bx_ h th a) a b n g
noncomputable def bn_ (h : AH) (sN nC P th g a b : Nat) : Nat := nn_ (fun n => bsn_ h sN nC P th g a b n) 10
def r3_ (p : Nat × Nat × Nat) (j : Nat) : Nat := if j = 0 then p.1 else if j = 1 then p.2.1 else p.2.2
noncomputable def pq_ (h : AH) (sN nC th g P a b : Nat) (w : Int32) : Int32 := cf_ (bsn_ h sN nC P th g a b (bn_ h sN nC P th g a b) = 101) (-1) (cf_ (w = -1) (nI (bn_ h sN nC P th g a b)) (cf_ (w < nI (3 * bn_ h sN nC P th g a b)) (nI (r3_ (pw_ (bb_ h sN nC P) (2 * sN) sN g (bx_ h th a) a (bsn_ h sN nC P th g a b (bn_ h sN nC P th g a b) - 1) (bn_ h sN nC P th g a b) (w.toNatClampNeg / 3)) (w.toNatClampNeg % 3))) (-1)))
noncomputable def sp_pass (h : AH) (sN nC : Nat) (th g P a b w : Int32) (hx : AH) : Int32 × AH := (cf_ (tsk_ h th g a b ∧ (0 ≤ P ∧ P ≤ nI (2 ^ sN - 1)) ∧ -1 ≤ w) (pq_ h sN nC th.toNatClampNeg g.toNatClampNeg P.toNatClampNeg a.toNatClampNeg b.toNatClampNeg w) (-1), hx)
/-- a report of a thing that lies there -/
def ok_r (h : AH) (r : Nat) : Prop := hp_I h 259 (7 * r + 1) = 0 ∧ (hp_I h 259 (7 * r + 2)).toNatClampNeg < nLaid (hp_I h 243)
/-- some can have passed what a report tells -/
def cp_r (h : AH) (sN nC P r : Nat) : Prop := hr_ (bb_ h sN nC P) (2 * sN) sN (bx_ h (hp_I h 259 (7 * r + 2)).toNatClampNeg (hp_I h 259 (7 * r + 4)).toNatClampNeg) (hp_I h 259 (7 * r + 4)).toNatClampNeg ((hp_I h 259 (7 * r + 5)).toNatClampNeg + 1 - (hp_I h 259 (7 * r + 4)).toNatClampNeg) (hp_I h 259 (7 * r + 3)).toNatClampNeg
def al_r (h : AH) (sN nC z P n : Nat) : Prop := ∀ r, r < n → z.testBit r = true → cp_r h sN nC P r
noncomputable def cu_ (h : AH) (sN nC nR z : Nat) : Nat → Int32
  | 0 => -1
  | k + 1 => cf_ ((cu_ h sN nC nR z k = -1 ∨ on_ k < on_ (cu_ h sN nC nR z k).toNatClampNeg) ∧ al_r h sN nC z k nR) (nI k) (cu_ h sN nC nR z k)
theorem cu_s (h : AH) (sN nC nR z k : Nat) : cu_ h sN nC nR z (k + 1) = cf_ ((cu_ h sN nC nR z k = -1 ∨ on_ k < on_ (cu_ h sN nC nR z k).toNatClampNeg) ∧ al_r h sN nC z k nR) (nI k) (cu_ h sN nC nR z k) := rfl
theorem cu_in (h : AH) (sN nC nR z : Nat) : ∀ k, cu_ h sN nC nR z k = -1 ∨ ∃ j, j < k ∧ cu_ h sN nC nR z k = nI j
  | 0 => Or.inl rfl
  | k + 1 => by
    rw [cu_s]
    by_cases y : (cu_ h sN nC nR z k = -1 ∨ on_ k < on_ (cu_ h sN nC nR z k).toNatClampNeg) ∧ al_r h sN nC z k nR
    · rw [cf_t y]; exact Or.inr ⟨k, by omega, rfl⟩
    · rw [cf_f y]
      rcases cu_in h sN nC nR z k with u | ⟨j, u1, u2⟩
      · exact Or.inl u
      · exact Or.inr ⟨j, by omega, u2⟩
noncomputable def sp_culprits (h : AH) (sN nC nR : Nat) (r0 : Int32) (hx : AH) : Int32 × AH := (cf_ ((0 < r0 ∧ r0 < nI (2 ^ nR)) ∧ ∀ r, r < nR → r0.toNatClampNeg.testBit r = true → ok_r h r) (cu_ h sN nC nR r0.toNatClampNeg (2 ^ sN)) (-1), hx)
set_option maxHeartbeats 1000000 in
theorem c_X4_pass {G : Gv} {h : AH} {sN nC : Nat} (hS : MS_ h sN nC) (th g P a b x : Int32) : Ctr G 7 yX4_pass cX4_pass 7 (some .int) [.ref 241, .int th, .int g, .int P, .int a, .int b, .int x] h 0 0 (Pf h (sp_pass h sN nC th g P a b x)) := by
  refine ctr_of (own := RX4) (nm := "pass") (by decide) (Nat.le_of_ble_eq_true rfl) ?_
  have hm := hS.1
  have hS0 := MS_th hS
  have hs := hS.2.1
  have hv := hS.2.2.1
  have h3 := sv_s hv
  have hpt := fp_th h
  refine v_aload_n dX4_pass_0 rfl rfl ?_
  refine v_iconst (v := 0) dX4_pass_1 (by decide) ?_
  refine v_thr fX4_1 dX4_pass_2 hm ?_
  have hm := MI_th hm
  refine v_cut 44 (tsk_ h th g a b ∧ (0 ≤ P ∧ P ≤ nI (2 ^ sN - 1)) ∧ -1 ≤ x) (fun hz44 => ?_) (fun hc44 => ?_)
  · skip
    obtain ⟨⟨q4, q5, q6⟩, q7, q8⟩ := hz44
    rw [(sv_laid hv).2] at q4
    rw [hs] at q5
    have hlaid := (sv_laid hv).1
    have h2p : 2 ^ sN ≤ 2 ^ 9 := Nat.pow_le_pow_right (by decide) h3.2
    have hpos := Nat.two_pow_pos sN
    obtain ⟨thn, hthn, rfl⟩ := nI_rng q4 (by omega)
    obtain ⟨gn, hgn, rfl⟩ := nI_rngE q5 (by omega)
    obtain ⟨an, bn, hab, hbn, rfl, rfl⟩ := sec2 q6
    obtain ⟨Pn, hPn, rfl⟩ := nI_rngE q7 (by omega)
    obtain ⟨x0, hx0, ex0⟩ := wh_in (s := nI an) hv hthn (nMov (hp_I h 243)) (Nat.le_refl _)
    have ebx : bx_ h thn an = x0 := by unfold bx_; rw [ex0, nI_clamp (by omega)]
    refine v_aload_n dX4_pass_44 rfl rfl ?_
    refine v_iconst (v := nI 0) dX4_pass_45 (by decide) ?_
    refine v_zV mtX4_lays q1855 q1857 qs65 rfl (by decide) dX4_pass_46 (c_lays hS0 _) (mK_obj hm) (by decide) (fun r46 h46 q46 z46 => ?_)
    obtain ⟨rfl, hL⟩ := q46
    have hL : LY_ (th_ h) nC sN 0 h46 := hL
    have hm : MI h46 := (MS_fr hS0 hL.1).1
    have hfx := fx_fr hL.1
    have hLd : LD_ (hp_I h 243) (ct_ h) nC sN 0 h46 := by
     have z := LY_LD hS0 hL
     rw [th_33, th_ct] at z
     exact z
    refine v_aload_n dX4_pass_49 rfl rfl ?_
    refine v_iload_n dX4_pass_50 rfl rfl ?_
    refine v_iload_n dX4_pass_51 rfl rfl ?_
    refine v_iload_n dX4_pass_52 rfl rfl ?_
    refine v_iload dX4_pass_53 rfl ?_
    refine v_iload dX4_pass_55 rfl ?_
    refine v_zV mtX4_findPass q2104 q2106 qs103 rfl (by decide) dX4_pass_57 (c_X4_findPass (th := thn) (g := gn) (P := Pn) (a := an) (b := bn) (x0 := x0) hv hLd (by omega) hthn hgn hab (by omega) hx0 ex0) (mK_obj hm) (by decide) (fun r57 h57 q57 z57 => ?_)
    obtain ⟨rfl, hfq, hrow⟩ := q57
    have hm : MI h57 := fq_m hfq hLd.1
    refine v_if_ne (tgt := 65) dX4_pass_60 (by decide) (fun b60 => ?_) (fun b60 => ?_)
    · skip
      rw [b2c_n0] at b60
      have hfd : ¬ bsn_ h sN nC Pn thn gn an bn (bn_ h sN nC Pn thn gn an bn) = 101 := by unfold bsn_ bn_ bsn_; rw [ebx]; exact b60
      obtain ⟨hN47, hN10, hrows⟩ := hrow b60
      have eNB : nn_ (fun n => so_ (fun i τ x => br_ (hp_I h 243) (ct_ h) nC sN 0 Pn i τ x) (2 * sN) sN x0 an bn n gn) 10 = bn_ h sN nC Pn thn gn an bn := by unfold bn_ bsn_; rw [ebx]; exact rfl
      have hN47 : hp_I h57 241 47 = nI (bn_ h sN nC Pn thn gn an bn) := by rw [← eNB]; exact hN47
      have hN10 : bn_ h sN nC Pn thn gn an bn ≤ 10 := by rw [← eNB]; exact hN10
      refine v_iload dX4_pass_65 rfl ?_
      refine v_iconst (v := (-1)) dX4_pass_67 (by decide) ?_
      refine v_icmp_ne (tgt := 78) dX4_pass_68 (by decide) (fun b68 => ?_) (fun b68 => ?_)
      · skip
        refine v_iload dX4_pass_78 rfl ?_
        refine v_iconst (v := 3) dX4_pass_80 (by decide) ?_
        refine v_aload_n dX4_pass_81 rfl rfl ?_
        refine v_getI fX4_401 dX4_pass_82 (mK_obj hm) ?_
        rw [hN47]
        refine v_imul dX4_pass_85 ?_
        refine v_icmp_ge (tgt := 99) dX4_pass_86 (by decide) (fun b86 => ?_) (fun b86 => ?_)
        · skip
          rw [show (3 : Int32) * nI (bn_ h sN nC Pn thn gn an bn) = nI (3 * bn_ h sN nC Pn thn gn an bn) from pk_mul 3 _] at b86
          refine v_iconst (v := (-1)) dX4_pass_99 (by decide) ?_
          refine v_reti dX4_pass_100 rfl (Pf_i (fp_tr hpt (fp_tr (fp_fx hfx) (fp_fq hfq))) ?_)
          unfold sp_pass
          rw [← hs] at q5
          rw [← (sv_laid hv).2] at q4
          rw [cf_t ⟨⟨q4, q5, q6⟩, q7, q8⟩]
          simp (disch := omega) only [nI_clamp]
          refine congrArg (fun z => (z, _)) ?_
          unfold pq_
          rw [cf_f hfd]
          first
          | (rw [cf_t b68]; done)
          | (rw [cf_f b68, cf_f (Int32.not_lt.mpr b86)]; done)
          | skip
            rw [cf_f b68, cf_t (Int32.not_le.mp b86), nI_clamp (by omega)]
            have hr9 := hrows (xn / 3) (by rw [eNB]; omega)
            rw [eNB] at hr9
            have e9 : so_ (fun i τ x => br_ (hp_I h 243) (ct_ h) nC sN 0 Pn i τ x) (2 * sN) sN x0 an bn (bn_ h sN nC Pn thn gn an bn) gn = bsn_ h sN nC Pn thn gn an bn (bn_ h sN nC Pn thn gn an bn) := by unfold bsn_; rw [ebx]; rfl
            rw [e9] at hr9
            rw [ebx]
            unfold r3_
            rcases (show xn % 3 = 0 ∨ xn % 3 = 1 ∨ xn % 3 = 2 by omega) with e | e | e
            · rw [if_pos e]; exact hr9.1.symm.trans (congrArg (hp_I h57 262) (by omega))
            · rw [if_neg (by omega), if_pos e]; exact hr9.2.1.symm.trans (congrArg (hp_I h57 262) (by omega))
            · rw [if_neg (by omega), if_neg (by omega)]; exact hr9.2.2.symm.trans (congrArg (hp_I h57 262) (by omega))
        · skip
          rw [show (3 : Int32) * nI (bn_ h sN nC Pn thn gn an bn) = nI (3 * bn_ h sN nC Pn thn gn an bn) from pk_mul 3 _] at b86
          obtain ⟨xn, hxn, rfl⟩ := nI_rng (x := x) (n := 3 * bn_ h sN nC Pn thn gn an bn) ⟨by grind, Int32.not_le.mp b86⟩ (by omega)
          have hx30 : xn < 30 := Nat.lt_of_lt_of_le hxn (by omega)
          refine v_aload_n dX4_pass_89 rfl rfl ?_
          refine v_getR fX4_82 dX4_pass_90 (mK_obj hm) (mR_hops hm) ?_ fcA_I
          refine v_iload dX4_pass_93 rfl ?_
          refine v_iald dX4_pass_95 (mK_hops hm) rfl hx30 ?_
          refine v_goto (tgt := 100) dX4_pass_96 (by decide) ?_
          refine v_reti dX4_pass_100 rfl (Pf_i (fp_tr hpt (fp_tr (fp_fx hfx) (fp_fq hfq))) ?_)
          unfold sp_pass
          rw [← hs] at q5
          rw [← (sv_laid hv).2] at q4
          rw [cf_t ⟨⟨q4, q5, q6⟩, q7, q8⟩]
          simp (disch := omega) only [nI_clamp]
          refine congrArg (fun z => (z, _)) ?_
          unfold pq_
          rw [cf_f hfd]
          first
          | (rw [cf_t b68]; done)
          | (rw [cf_f b68, cf_f (Int32.not_lt.mpr b86)]; done)
          | skip
            rw [cf_f b68, cf_t (Int32.not_le.mp b86), nI_clamp (by omega)]
            have hr9 := hrows (xn / 3) (by rw [eNB]; omega)
            rw [eNB] at hr9
            have e9 : so_ (fun i τ x => br_ (hp_I h 243) (ct_ h) nC sN 0 Pn i τ x) (2 * sN) sN x0 an bn (bn_ h sN nC Pn thn gn an bn) gn = bsn_ h sN nC Pn thn gn an bn (bn_ h sN nC Pn thn gn an bn) := by unfold bsn_; rw [ebx]; rfl
            rw [e9] at hr9
            rw [ebx]
            unfold r3_
            rcases (show xn % 3 = 0 ∨ xn % 3 = 1 ∨ xn % 3 = 2 by omega) with e | e | e
            · rw [if_pos e]; exact hr9.1.symm.trans (congrArg (hp_I h57 262) (by omega))
            · rw [if_neg (by omega), if_pos e]; exact hr9.2.1.symm.trans (congrArg (hp_I h57 262) (by omega))
            · rw [if_neg (by omega), if_neg (by omega)]; exact hr9.2.2.symm.trans (congrArg (hp_I h57 262) (by omega))
      · skip
        refine v_aload_n dX4_pass_71 rfl rfl ?_
        refine v_getI fX4_401 dX4_pass_72 (mK_obj hm) ?_
        rw [hN47]
        refine v_goto (tgt := 100) dX4_pass_75 (by decide) ?_
        refine v_reti dX4_pass_100 rfl (Pf_i (fp_tr hpt (fp_tr (fp_fx hfx) (fp_fq hfq))) ?_)
        unfold sp_pass
        rw [← hs] at q5
        rw [← (sv_laid hv).2] at q4
        rw [cf_t ⟨⟨q4, q5, q6⟩, q7, q8⟩]
        simp (disch := omega) only [nI_clamp]
        refine congrArg (fun z => (z, _)) ?_
        unfold pq_
        rw [cf_f hfd]
        first
        | (rw [cf_t b68]; done)
        | (rw [cf_f b68, cf_f (Int32.not_lt.mpr b86)]; done)
        | skip
          rw [cf_f b68, cf_t (Int32.not_le.mp b86), nI_clamp (by omega)]
          have hr9 := hrows (xn / 3) (by rw [eNB]; omega)
          rw [eNB] at hr9
          have e9 : so_ (fun i τ x => br_ (hp_I h 243) (ct_ h) nC sN 0 Pn i τ x) (2 * sN) sN x0 an bn (bn_ h sN nC Pn thn gn an bn) gn = bsn_ h sN nC Pn thn gn an bn (bn_ h sN nC Pn thn gn an bn) := by unfold bsn_; rw [ebx]; rfl
          rw [e9] at hr9
          rw [ebx]
          unfold r3_
          rcases (show xn % 3 = 0 ∨ xn % 3 = 1 ∨ xn % 3 = 2 by omega) with e | e | e
          · rw [if_pos e]; exact hr9.1.symm.trans (congrArg (hp_I h57 262) (by omega))
          · rw [if_neg (by omega), if_pos e]; exact hr9.2.1.symm.trans (congrArg (hp_I h57 262) (by omega))
          · rw [if_neg (by omega), if_neg (by omega)]; exact hr9.2.2.symm.trans (congrArg (hp_I h57 262) (by omega))
    · skip
      rw [b2c_0, Classical.not_not] at b60
      have hnf : bsn_ h sN nC Pn thn gn an bn (bn_ h sN nC Pn thn gn an bn) = 101 := by unfold bsn_ bn_ bsn_; rw [ebx]; exact b60
      refine v_iconst (v := (-1)) dX4_pass_63 (by decide) ?_
      refine v_reti dX4_pass_64 rfl (Pf_i (fp_tr hpt (fp_tr (fp_fx hfx) (fp_fq hfq))) ?_)
      unfold sp_pass
      rw [← hs] at q5
      rw [← (sv_laid hv).2] at q4
      rw [cf_t ⟨⟨q4, q5, q6⟩, q7, q8⟩]
      simp (disch := omega) only [nI_clamp]
      refine congrArg (fun z => (z, _)) ?_
      unfold pq_
      exact cf_t hnf
  · skip
    refine v_cut 42 (¬ (tsk_ h th g a b ∧ (0 ≤ P ∧ P ≤ nI (2 ^ sN - 1)) ∧ -1 ≤ x)) (fun hz42 => ?_) (fun hc42 => ?_)
    · skip
      refine v_iconst (v := (-1)) dX4_pass_42 (by decide) ?_
      exact v_reti dX4_pass_43 rfl (Pf_i hpt (by unfold sp_pass; rw [cf_f hz42]))
    · skip
      refine v_aload_n dX4_pass_5 rfl rfl ?_
      refine v_iload_n dX4_pass_6 rfl rfl ?_
      refine v_iload_n dX4_pass_7 rfl rfl ?_
      refine v_iload dX4_pass_8 rfl ?_
      refine v_iload dX4_pass_10 rfl ?_
      refine v_pV mtX4_isTask q2000 q2002 qs85 rfl (by decide) dX4_pass_12 (c_X4_isTask hm _ _ _ _) (mK_obj hm) (by decide) ?_
      refine v_if_eq (tgt := 42) dX4_pass_15 (by decide) (fun b15 => ?_) (fun b15 => ?_)
      · skip
        exact hc42 (by unfold tsk_; (try simp only [b2i_0, b2i_n0] at *); (try simp only [th_4, th_33] at *); grind)
      · skip
        refine v_iload_n dX4_pass_18 rfl rfl ?_
        refine v_i2l dX4_pass_19 ?_
        refine v_lconst (v := (0 : Int32).toInt64) dX4_pass_20 (by decide) ?_
        refine v_iconst (v := 1) dX4_pass_21 (by decide) ?_
        refine v_aload_n dX4_pass_22 rfl rfl ?_
        refine v_getI fX4_24 dX4_pass_23 (mK_obj hm) ?_
        rw [th_4, hs]
        refine v_ishl dX4_pass_26 ?_
        rw [sh_1 (by omega)]
        refine v_iconst (v := 1) dX4_pass_27 (by decide) ?_
        refine v_isub dX4_pass_28 ?_
        rw [nI_sub1 (Nat.two_pow_pos _)]
        refine v_i2l dX4_pass_29 ?_
        refine v_pS mtX4_within q1790 q1791 dX4_pass_30 (c_X4_within _ _ _) (by decide) ?_
        refine v_if_eq (tgt := 42) dX4_pass_33 (by decide) (fun b33 => ?_) (fun b33 => ?_)
        · skip
          exact hc42 (by unfold tsk_; (try simp only [b2i_0, b2i_n0] at *); (try simp only [th_4, th_33] at *); grind)
        · skip
          refine v_iload dX4_pass_36 rfl ?_
          refine v_iconst (v := (-1)) dX4_pass_38 (by decide) ?_
          refine v_icmp_ge (tgt := 44) dX4_pass_39 (by decide) (fun b39 => ?_) (fun b39 => ?_)
          · skip
            exact hc44 (by unfold tsk_; (try simp only [b2i_0, b2i_n0] at *); (try simp only [th_4, th_33] at *); grind)
          · skip
            exact hc42 (by unfold tsk_; (try simp only [b2i_0, b2i_n0] at *); (try simp only [th_4, th_33] at *); grind)

set_option maxHeartbeats 2000000 in
theorem c_X4_culprits {G : Gv} {h : AH} {sN nC : Nat} (hS : MS_ h sN nC) {nR : Nat} (hR : RP_ h nR sN) (r0 : Int32) : Ctr G 8 yX4_culprits cX4_culprits 6 (some .int) [.ref 241, .int r0] h 0 0 (Pf h (sp_culprits h sN nC nR r0)) := by
  refine ctr_of (own := RX4) (nm := "culprits") (by decide) (Nat.le_of_ble_eq_true rfl) ?_
  have hm := hS.1
  have hS0 := MS_th hS
  have hs := hS.2.1
  have hv := hS.2.2.1
  have h3 := sv_s hv
  have hpt := fp_th h
  have hR0 := RP_th hR
  have hR9 := hR.2.1
  have e42t : hp_I (th_ h) 241 42 = nI nR := hR.1
  have h2r : 2 ^ nR ≤ 2 ^ 30 := Nat.pow_le_pow_right (by decide) hR9
  have hlaid := sv_laid hv
  refine v_aload_n dX4_culprits_0 rfl rfl ?_
  refine v_iconst (v := 0) dX4_culprits_1 (by decide) ?_
  refine v_thr fX4_1 dX4_culprits_2 hm ?_
  have hm := MI_th hm
  refine v_iload_n dX4_culprits_5 rfl rfl ?_
  refine v_if_le (tgt := 19) dX4_culprits_6 (by decide) (fun b6 => ?_) (fun b6 => ?_)
  · skip
    have hno : ¬ ((0 < r0 ∧ r0 < nI (2 ^ nR)) ∧ ∀ r, r < nR → r0.toNatClampNeg.testBit r = true → ok_r h r) := fun y => Int32.not_lt.mpr b6 y.1.1
    refine v_iconst (v := (-1)) dX4_culprits_19 (by decide) ?_
    exact v_reti dX4_culprits_20 rfl (Pf_i hpt (by unfold sp_culprits; rw [cf_f hno]))
  · skip
    refine v_iload_n dX4_culprits_9 rfl rfl ?_
    refine v_iconst (v := 1) dX4_culprits_10 (by decide) ?_
    refine v_aload_n dX4_culprits_11 rfl rfl ?_
    refine v_getI fX4_119 dX4_culprits_12 (mK_obj hm) ?_
    rw [e42t]
    refine v_ishl dX4_culprits_15 ?_
    rw [sh_1 (by omega)]
    refine v_icmp_lt (tgt := 21) dX4_culprits_16 (by decide) (fun b16 => ?_) (fun b16 => ?_)
    · skip
      have hc1 : 0 < r0 ∧ r0 < nI (2 ^ nR) := ⟨Int32.not_le.mp b6, b16⟩
      obtain ⟨z, hzl, rfl⟩ := nI_rng (x := r0) (n := 2 ^ nR) ⟨Int32.le_of_lt hc1.1, hc1.2⟩ (by omega)
      refine v_iconst (v := 0) dX4_culprits_21 (by decide) ?_
      refine v_istore_n dX4_culprits_22 rfl (by decide) ?_
      refine v_loc2 (by repeat' (first | with_reducible exact lsub_n | with_reducible refine lsub_c ?_ ?_ | with_reducible refine lk_hit ?_ | with_reducible refine lk_miss (by decide) ?_ ?_ | exact rfl)) (v_lp1 (fun (r : Nat) => nR - r) (fun (r : Nat) => r ≤ nR ∧ ∀ q, q < r → z.testBit q = true → ok_r h q) (fun (r : Nat) => [(0, .ref 241), (1, .int (nI z)), (2, .int (nI r))]) (fun _ => []) (fun (r : Nat) => (th_ h)) ?_ 0 ⟨Nat.zero_le _, fun i hi => absurd hi (Nat.not_lt_zero i)⟩)
      intro r hI IHr
      obtain ⟨hI1, hoks⟩ := hI
      refine v_iload_n dX4_culprits_23 rfl rfl ?_
      refine v_aload_n dX4_culprits_24 rfl rfl ?_
      refine v_getI fX4_119 dX4_culprits_25 (mK_obj hm) ?_
      rw [e42t]
      refine v_icmp_ge (tgt := 68) dX4_culprits_28 (by decide) (fun b28 => ?_) (fun b28 => ?_)
      · skip
        rw [nI_leI (by omega) (by omega)] at b28
        have hk : nR = r := by omega
        subst hk
        refine v_aload_n dX4_culprits_68 rfl rfl ?_
        refine v_iconst (v := nI 0) dX4_culprits_69 (by decide) ?_
        refine v_zV mtX4_lays q1855 q1857 qs65 rfl (by decide) dX4_culprits_70 (c_lays hS0 _) (mK_obj hm) (by decide) (fun r70 h70 q70 z70 => ?_)
        obtain ⟨rfl, hL⟩ := q70
        have hL : LY_ (th_ h) nC sN 0 h70 := hL
        have hm : MI h70 := (MS_fr hS0 hL.1).1
        have hfx := fx_fr hL.1
        have hLd : LD_ (hp_I h 243) (ct_ h) nC sN 0 h70 := by
         have z := LY_LD hS0 hL
         rw [th_33, th_ct] at z
         exact z
        have hpx : fp_ h h70 := fp_tr hpt (fp_fx hfx)
        have hs70 : hp_I h70 241 4 = nI sN := hLd.2.1
        have e42x : hp_I h70 241 42 = nI nR := by rw [fp_I hpx 42 (by decide)]; exact hR.1
        have e249 : ∀ i, hp_I h70 259 i = hp_I h 259 i := fun i => by rw [fp_A hpx 259 (by decide) (by decide)]
        have h2p : 2 ^ sN ≤ 2 ^ 9 := Nat.pow_le_pow_right (by decide) h3.2
        refine v_iconst (v := (-1)) dX4_culprits_73 (by decide) ?_
        refine v_istore_n dX4_culprits_74 rfl (by decide) ?_
        refine v_iconst (v := 0) dX4_culprits_75 (by decide) ?_
        refine v_istore_n dX4_culprits_76 rfl (by decide) ?_
        refine v_loc2 (by repeat' (first | with_reducible exact lsub_n | with_reducible refine lsub_c ?_ ?_ | with_reducible refine lk_hit ?_ | with_reducible refine lk_miss (by decide) ?_ ?_ | exact rfl)) (v_lp1 (fun (k : Nat) => 2 ^ sN - k) (fun (k : Nat) => k ≤ 2 ^ sN) (fun (k : Nat) => [(0, .ref 241), (1, .int (nI z)), (2, .int (cu_ h sN nC nR z k)), (3, .int (nI k))]) (fun _ => []) (fun (k : Nat) => h70) ?_ 0 (Nat.zero_le _))
        intro k hK IHk
        refine v_iload_n dX4_culprits_77 rfl rfl ?_
        refine v_iconst (v := 1) dX4_culprits_78 (by decide) ?_
        refine v_aload_n dX4_culprits_79 rfl rfl ?_
        refine v_getI fX4_24 dX4_culprits_80 (mK_obj hm) ?_
        rw [hs70]
        refine v_ishl dX4_culprits_83 ?_
        rw [sh_1 (by omega)]
        refine v_icmp_ge (tgt := 201) dX4_culprits_84 (by decide) (fun b84 => ?_) (fun b84 => ?_)
        · skip
          rw [nI_leI (by omega) (by omega)] at b84
          have hk : 2 ^ sN = k := by omega
          refine v_iload_n dX4_culprits_201 rfl rfl ?_
          subst hk
          refine v_reti dX4_culprits_202 rfl (Pf_i hpx ?_)
          unfold sp_culprits
          rw [nI_clamp (by omega), cf_t ⟨hc1, hoks⟩]
        · skip
          rw [nI_leI (by omega) (by omega)] at b84
          have hk : k < 2 ^ sN := by omega
          refine v_iload_n dX4_culprits_87 rfl rfl ?_
          refine v_iconst (v := (-1)) dX4_culprits_88 (by decide) ?_
          refine v_icmp_eq (tgt := 106) dX4_culprits_89 (by decide) (fun b89 => ?_) (fun b89 => ?_)
          · skip
            have hcb : cu_ h sN nC nR z k = -1 ∨ on_ k < on_ (cu_ h sN nC nR z k).toNatClampNeg := Or.inl b89
            refine v_iconst (v := 1) dX4_culprits_106 (by decide) ?_
            refine v_istore dX4_culprits_107 (by decide) ?_
            refine v_iconst (v := 0) dX4_culprits_109 (by decide) ?_
            refine v_istore dX4_culprits_110 (by decide) ?_
            refine v_loc2 (by repeat' (first | with_reducible exact lsub_n | with_reducible refine lsub_c ?_ ?_ | with_reducible refine lk_hit ?_ | with_reducible refine lk_miss (by decide) ?_ ?_ | (first | exact congrArg Value.int (b2c_t (show al_r h sN nC z k 0 from fun q hq => absurd hq (Nat.not_lt_zero q))).symm | exact congrArg (fun y => some (Value.int y)) (b2c_t (show al_r h sN nC z k 0 from fun q hq => absurd hq (Nat.not_lt_zero q))).symm | exact rfl))) (v_lp1 (fun (r : Nat) => nR - r) (fun (r : Nat) => r ≤ nR) (fun (r : Nat) => [(0, .ref 241), (1, .int (nI z)), (2, .int (cu_ h sN nC nR z k)), (3, .int (nI k)), (4, .int (b2c (al_r h sN nC z k r))), (5, .int (nI r))]) (fun _ => []) (fun (r : Nat) => h70) ?_ 0 (Nat.zero_le _))
            intro r hr9 IHr
            refine v_iload dX4_culprits_112 rfl ?_
            refine v_aload_n dX4_culprits_114 rfl rfl ?_
            refine v_getI fX4_119 dX4_culprits_115 (mK_obj hm) ?_
            rw [e42x]
            refine v_icmp_ge (tgt := 184) dX4_culprits_118 (by decide) (fun b118 => ?_) (fun b118 => ?_)
            · skip
              rw [nI_leI (by omega) (by omega)] at b118
              have hkr : nR = r := by omega
              have hal : al_r h sN nC z k r ↔ al_r h sN nC z k nR := by rw [hkr]
              refine v_iload dX4_culprits_184 rfl ?_
              refine v_if_eq (tgt := 193) dX4_culprits_186 (by decide) (fun b186 => ?_) (fun b186 => ?_)
              · skip
                rw [b2c_0, hal] at b186
                have hq : cu_ h sN nC nR z (k + 1) = cu_ h sN nC nR z k := by rw [cu_s]; exact cf_f (fun y => b186 y.2)
                refine v_iload_n dX4_culprits_193 rfl rfl ?_
                refine v_istore_n dX4_culprits_194 rfl (by decide) ?_
                refine v_iinc dX4_culprits_195 rfl (by first | with_reducible exact nI_inc _ | exact rfl) (by decide) ?_
                refine v_goto (tgt := 77) dX4_culprits_198 (by decide) ?_
                refine v_loc2 (by repeat' (first | with_reducible exact lsub_n | with_reducible refine lsub_c ?_ ?_ | with_reducible refine lk_hit ?_ | with_reducible refine lk_miss (by decide) ?_ ?_ | (first | exact rfl | (rw [hq]; done) | (rw [hq]; exact rfl)))) (IHk (k + 1) (by omega) (by omega))
              · skip
                rw [b2c_n0, hal] at b186
                have hq : cu_ h sN nC nR z (k + 1) = nI k := by rw [cu_s]; exact cf_t ⟨hcb, b186⟩
                refine v_iload_n dX4_culprits_189 rfl rfl ?_
                refine v_goto (tgt := 194) dX4_culprits_190 (by decide) ?_
                refine v_istore_n dX4_culprits_194 rfl (by decide) ?_
                refine v_iinc dX4_culprits_195 rfl (by first | with_reducible exact nI_inc _ | exact rfl) (by decide) ?_
                refine v_goto (tgt := 77) dX4_culprits_198 (by decide) ?_
                refine v_loc2 (by repeat' (first | with_reducible exact lsub_n | with_reducible refine lsub_c ?_ ?_ | with_reducible refine lk_hit ?_ | with_reducible refine lk_miss (by decide) ?_ ?_ | (first | exact rfl | (rw [hq]; done) | (rw [hq]; exact rfl)))) (IHk (k + 1) (by omega) (by omega))
            · skip
              rw [nI_leI (by omega) (by omega)] at b118
              have hkr : r < nR := by omega
              refine v_iload dX4_culprits_121 rfl ?_
              refine v_if_eq (tgt := 184) dX4_culprits_123 (by decide) (fun b123 => ?_) (fun b123 => ?_)
              · skip
                rw [b2c_0] at b123
                have hal : al_r h sN nC z k r ↔ al_r h sN nC z k nR := ⟨fun y => absurd y b123, fun y q hq => y q (by omega)⟩
                refine v_iload dX4_culprits_184 rfl ?_
                refine v_if_eq (tgt := 193) dX4_culprits_186 (by decide) (fun b186 => ?_) (fun b186 => ?_)
                · skip
                  rw [b2c_0, hal] at b186
                  have hq : cu_ h sN nC nR z (k + 1) = cu_ h sN nC nR z k := by rw [cu_s]; exact cf_f (fun y => b186 y.2)
                  refine v_iload_n dX4_culprits_193 rfl rfl ?_
                  refine v_istore_n dX4_culprits_194 rfl (by decide) ?_
                  refine v_iinc dX4_culprits_195 rfl (by first | with_reducible exact nI_inc _ | exact rfl) (by decide) ?_
                  refine v_goto (tgt := 77) dX4_culprits_198 (by decide) ?_
                  refine v_loc2 (by repeat' (first | with_reducible exact lsub_n | with_reducible refine lsub_c ?_ ?_ | with_reducible refine lk_hit ?_ | with_reducible refine lk_miss (by decide) ?_ ?_ | (first | exact rfl | (rw [hq]; done) | (rw [hq]; exact rfl)))) (IHk (k + 1) (by omega) (by omega))
                · skip
                  rw [b2c_n0, hal] at b186
                  have hq : cu_ h sN nC nR z (k + 1) = nI k := by rw [cu_s]; exact cf_t ⟨hcb, b186⟩
                  refine v_iload_n dX4_culprits_189 rfl rfl ?_
                  refine v_goto (tgt := 194) dX4_culprits_190 (by decide) ?_
                  refine v_istore_n dX4_culprits_194 rfl (by decide) ?_
                  refine v_iinc dX4_culprits_195 rfl (by first | with_reducible exact nI_inc _ | exact rfl) (by decide) ?_
                  refine v_goto (tgt := 77) dX4_culprits_198 (by decide) ?_
                  refine v_loc2 (by repeat' (first | with_reducible exact lsub_n | with_reducible refine lsub_c ?_ ?_ | with_reducible refine lk_hit ?_ | with_reducible refine lk_miss (by decide) ?_ ?_ | (first | exact rfl | (rw [hq]; done) | (rw [hq]; exact rfl)))) (IHk (k + 1) (by omega) (by omega))
              · skip
                rw [b2c_n0] at b123
                refine v_iload_n dX4_culprits_126 rfl rfl ?_
                refine v_iload dX4_culprits_127 rfl ?_
                refine v_pS mtX4_has q1859 q1860 dX4_culprits_129 (c_X4_has _ _) (by decide) ?_
                refine v_if_eq (tgt := 171) dX4_culprits_132 (by decide) (fun b132 => ?_) (fun b132 => ?_)
                · skip
                  rw [b2i_0, has_bit (by omega) (by omega)] at b132
                  have hnx : al_r h sN nC z k (r + 1) := fun q hq => (Nat.lt_succ_iff_lt_or_eq.mp hq).elim (b123 q) (fun u => by subst u; exact fun y => absurd y b132)
                  refine v_iconst (v := 1) dX4_culprits_171 (by decide) ?_
                  rw [show (1 : Int32) = b2c (al_r h sN nC z k (r + 1)) from (b2c_t hnx).symm]
                  refine v_goto (tgt := 176) dX4_culprits_172 (by decide) ?_
                  refine v_istore dX4_culprits_176 (by decide) ?_
                  refine v_iinc dX4_culprits_178 rfl (by first | with_reducible exact nI_inc _ | exact rfl) (by decide) ?_
                  refine v_goto (tgt := 112) dX4_culprits_181 (by decide) ?_
                  refine v_loc2 (by repeat' (first | with_reducible exact lsub_n | with_reducible refine lsub_c ?_ ?_ | with_reducible refine lk_hit ?_ | with_reducible refine lk_miss (by decide) ?_ ?_ | exact rfl)) (IHr (r + 1) (by omega) (by omega))
                · skip
                  rw [b2i_n0, has_bit (by omega) (by omega)] at b132
                  have hokr := hoks r hkr b132
                  obtain ⟨-, ek, ⟨an, bn, hab, hbn, e4, e5⟩, -⟩ := hR.2.2 r hkr
                  obtain ⟨-, ⟨tn, htn, e2⟩, ⟨xn, hxn, e3⟩⟩ := ek.resolve_right (fun y => by have := hokr.1; rw [this] at y; exact absurd y.1 (by decide))
                  have hth := hokr.2
                  rw [e2, nI_clamp (by omega)] at hth
                  have ecp : cp_r h sN nC k r ↔ hr_ (fun i τ x => br_ (hp_I h 243) (ct_ h) nC sN 0 k i τ x) (2 * sN) sN (wh_ (hp_I h 243) tn (nI an) (nMov (hp_I h 243))).toNatClampNeg an (bn + 1 - an) xn := by
                   unfold cp_r
                   rw [e2, e3, e4, e5]
                   simp (disch := omega) only [nI_clamp]
                   exact Iff.rfl
                  refine v_aload_n dX4_culprits_135 rfl rfl ?_
                  refine v_aload_n dX4_culprits_136 rfl rfl ?_
                  refine v_iload dX4_culprits_137 rfl ?_
                  refine v_iconst (v := nI 2) dX4_culprits_139 (by decide) ?_
                  refine v_pV mtX4_tellsOf q2053 q2055 qs96 rfl (by decide) dX4_culprits_140 (c_X4_tellsOf hm ?_) (mK_obj hm) (by decide) ?_
                  · omega
                  rw [e249, e2]
                  refine v_aload_n dX4_culprits_143 rfl rfl ?_
                  refine v_iload dX4_culprits_144 rfl ?_
                  refine v_iconst (v := nI 3) dX4_culprits_146 (by decide) ?_
                  refine v_pV mtX4_tellsOf q2053 q2055 qs96 rfl (by decide) dX4_culprits_147 (c_X4_tellsOf hm ?_) (mK_obj hm) (by decide) ?_
                  · omega
                  rw [e249, e3]
                  refine v_iload_n dX4_culprits_150 rfl rfl ?_
                  refine v_aload_n dX4_culprits_151 rfl rfl ?_
                  refine v_iload dX4_culprits_152 rfl ?_
                  refine v_iconst (v := nI 4) dX4_culprits_154 (by decide) ?_
                  refine v_pV mtX4_tellsOf q2053 q2055 qs96 rfl (by decide) dX4_culprits_155 (c_X4_tellsOf hm ?_) (mK_obj hm) (by decide) ?_
                  · omega
                  rw [e249, e4]
                  refine v_aload_n dX4_culprits_158 rfl rfl ?_
                  refine v_iload dX4_culprits_159 rfl ?_
                  refine v_iconst (v := nI 5) dX4_culprits_161 (by decide) ?_
                  refine v_pV mtX4_tellsOf q2053 q2055 qs96 rfl (by decide) dX4_culprits_162 (c_X4_tellsOf hm ?_) (mK_obj hm) (by decide) ?_
                  · omega
                  rw [e249, e5]
                  refine v_pV mtX4_hasPass q2140 q2142 qs111 rfl (by decide) dX4_culprits_165 (c_X4_hasPass (P := k) (th := tn) (g := xn) (a := an) (b := bn) hv hLd (by omega) hth (by omega) hab (by omega)) (mK_obj hm) (by decide) ?_
                  refine v_if_eq (tgt := 175) dX4_culprits_168 (by decide) (fun b168 => ?_) (fun b168 => ?_)
                  · skip
                    rw [b2c_0] at b168
                    have hnx : ¬ al_r h sN nC z k (r + 1) := fun y => b168 (ecp.mp (y r (by omega) b132))
                    refine v_iconst (v := 0) dX4_culprits_175 (by decide) ?_
                    rw [show (0 : Int32) = b2c (al_r h sN nC z k (r + 1)) from (b2c_f hnx).symm]
                    refine v_istore dX4_culprits_176 (by decide) ?_
                    refine v_iinc dX4_culprits_178 rfl (by first | with_reducible exact nI_inc _ | exact rfl) (by decide) ?_
                    refine v_goto (tgt := 112) dX4_culprits_181 (by decide) ?_
                    refine v_loc2 (by repeat' (first | with_reducible exact lsub_n | with_reducible refine lsub_c ?_ ?_ | with_reducible refine lk_hit ?_ | with_reducible refine lk_miss (by decide) ?_ ?_ | exact rfl)) (IHr (r + 1) (by omega) (by omega))
                  · skip
                    rw [b2c_n0] at b168
                    have hnx : al_r h sN nC z k (r + 1) := fun q hq => (Nat.lt_succ_iff_lt_or_eq.mp hq).elim (b123 q) (fun u => by subst u; exact fun _ => ecp.mpr b168)
                    refine v_iconst (v := 1) dX4_culprits_171 (by decide) ?_
                    rw [show (1 : Int32) = b2c (al_r h sN nC z k (r + 1)) from (b2c_t hnx).symm]
                    refine v_goto (tgt := 176) dX4_culprits_172 (by decide) ?_
                    refine v_istore dX4_culprits_176 (by decide) ?_
                    refine v_iinc dX4_culprits_178 rfl (by first | with_reducible exact nI_inc _ | exact rfl) (by decide) ?_
                    refine v_goto (tgt := 112) dX4_culprits_181 (by decide) ?_
                    refine v_loc2 (by repeat' (first | with_reducible exact lsub_n | with_reducible refine lsub_c ?_ ?_ | with_reducible refine lk_hit ?_ | with_reducible refine lk_miss (by decide) ?_ ?_ | exact rfl)) (IHr (r + 1) (by omega) (by omega))
          · skip
            obtain ⟨jb, hjb, ejb⟩ := (cu_in h sN nC nR z k).resolve_left b89
            refine v_iload_n dX4_culprits_92 rfl rfl ?_
            refine v_pS mtX4_ones q2097 q2098 dX4_culprits_93 (c_X4_ones (n := k) (by omega)) (by decide) ?_
            refine v_iload_n dX4_culprits_96 rfl rfl ?_
            have hone : Ctr G 1 yX4_ones cX4_ones 3 (some .int) [.int (cu_ h sN nC nR z k)] h70 0 0 (Pu h70 (.int (nI (on_ jb)))) := by rw [ejb]; exact c_X4_ones (n := jb) (by omega)
            refine v_pS mtX4_ones q2097 q2098 dX4_culprits_97 hone (by decide) ?_
            refine v_icmp_lt (tgt := 106) dX4_culprits_100 (by decide) (fun b100 => ?_) (fun b100 => ?_)
            · skip
              rw [nI_ltI (by have := on_le k; have := on_le jb; omega) (by have := on_le k; have := on_le jb; omega)] at b100
              have hcb : cu_ h sN nC nR z k = -1 ∨ on_ k < on_ (cu_ h sN nC nR z k).toNatClampNeg := Or.inr (by rw [ejb, nI_clamp (by omega)]; exact b100)
              refine v_iconst (v := 1) dX4_culprits_106 (by decide) ?_
              refine v_istore dX4_culprits_107 (by decide) ?_
              refine v_iconst (v := 0) dX4_culprits_109 (by decide) ?_
              refine v_istore dX4_culprits_110 (by decide) ?_
              refine v_loc2 (by repeat' (first | with_reducible exact lsub_n | with_reducible refine lsub_c ?_ ?_ | with_reducible refine lk_hit ?_ | with_reducible refine lk_miss (by decide) ?_ ?_ | (first | exact congrArg Value.int (b2c_t (show al_r h sN nC z k 0 from fun q hq => absurd hq (Nat.not_lt_zero q))).symm | exact congrArg (fun y => some (Value.int y)) (b2c_t (show al_r h sN nC z k 0 from fun q hq => absurd hq (Nat.not_lt_zero q))).symm | exact rfl))) (v_lp1 (fun (r : Nat) => nR - r) (fun (r : Nat) => r ≤ nR) (fun (r : Nat) => [(0, .ref 241), (1, .int (nI z)), (2, .int (cu_ h sN nC nR z k)), (3, .int (nI k)), (4, .int (b2c (al_r h sN nC z k r))), (5, .int (nI r))]) (fun _ => []) (fun (r : Nat) => h70) ?_ 0 (Nat.zero_le _))
              intro r hr9 IHr
              refine v_iload dX4_culprits_112 rfl ?_
              refine v_aload_n dX4_culprits_114 rfl rfl ?_
              refine v_getI fX4_119 dX4_culprits_115 (mK_obj hm) ?_
              rw [e42x]
              refine v_icmp_ge (tgt := 184) dX4_culprits_118 (by decide) (fun b118 => ?_) (fun b118 => ?_)
              · skip
                rw [nI_leI (by omega) (by omega)] at b118
                have hkr : nR = r := by omega
                have hal : al_r h sN nC z k r ↔ al_r h sN nC z k nR := by rw [hkr]
                refine v_iload dX4_culprits_184 rfl ?_
                refine v_if_eq (tgt := 193) dX4_culprits_186 (by decide) (fun b186 => ?_) (fun b186 => ?_)
                · skip
                  rw [b2c_0, hal] at b186
                  have hq : cu_ h sN nC nR z (k + 1) = cu_ h sN nC nR z k := by rw [cu_s]; exact cf_f (fun y => b186 y.2)
                  refine v_iload_n dX4_culprits_193 rfl rfl ?_
                  refine v_istore_n dX4_culprits_194 rfl (by decide) ?_
                  refine v_iinc dX4_culprits_195 rfl (by first | with_reducible exact nI_inc _ | exact rfl) (by decide) ?_
                  refine v_goto (tgt := 77) dX4_culprits_198 (by decide) ?_
                  refine v_loc2 (by repeat' (first | with_reducible exact lsub_n | with_reducible refine lsub_c ?_ ?_ | with_reducible refine lk_hit ?_ | with_reducible refine lk_miss (by decide) ?_ ?_ | (first | exact rfl | (rw [hq]; done) | (rw [hq]; exact rfl)))) (IHk (k + 1) (by omega) (by omega))
                · skip
                  rw [b2c_n0, hal] at b186
                  have hq : cu_ h sN nC nR z (k + 1) = nI k := by rw [cu_s]; exact cf_t ⟨hcb, b186⟩
                  refine v_iload_n dX4_culprits_189 rfl rfl ?_
                  refine v_goto (tgt := 194) dX4_culprits_190 (by decide) ?_
                  refine v_istore_n dX4_culprits_194 rfl (by decide) ?_
                  refine v_iinc dX4_culprits_195 rfl (by first | with_reducible exact nI_inc _ | exact rfl) (by decide) ?_
                  refine v_goto (tgt := 77) dX4_culprits_198 (by decide) ?_
                  refine v_loc2 (by repeat' (first | with_reducible exact lsub_n | with_reducible refine lsub_c ?_ ?_ | with_reducible refine lk_hit ?_ | with_reducible refine lk_miss (by decide) ?_ ?_ | (first | exact rfl | (rw [hq]; done) | (rw [hq]; exact rfl)))) (IHk (k + 1) (by omega) (by omega))
              · skip
                rw [nI_leI (by omega) (by omega)] at b118
                have hkr : r < nR := by omega
                refine v_iload dX4_culprits_121 rfl ?_
                refine v_if_eq (tgt := 184) dX4_culprits_123 (by decide) (fun b123 => ?_) (fun b123 => ?_)
                · skip
                  rw [b2c_0] at b123
                  have hal : al_r h sN nC z k r ↔ al_r h sN nC z k nR := ⟨fun y => absurd y b123, fun y q hq => y q (by omega)⟩
                  refine v_iload dX4_culprits_184 rfl ?_
                  refine v_if_eq (tgt := 193) dX4_culprits_186 (by decide) (fun b186 => ?_) (fun b186 => ?_)
                  · skip
                    rw [b2c_0, hal] at b186
                    have hq : cu_ h sN nC nR z (k + 1) = cu_ h sN nC nR z k := by rw [cu_s]; exact cf_f (fun y => b186 y.2)
                    refine v_iload_n dX4_culprits_193 rfl rfl ?_
                    refine v_istore_n dX4_culprits_194 rfl (by decide) ?_
                    refine v_iinc dX4_culprits_195 rfl (by first | with_reducible exact nI_inc _ | exact rfl) (by decide) ?_
                    refine v_goto (tgt := 77) dX4_culprits_198 (by decide) ?_
                    refine v_loc2 (by repeat' (first | with_reducible exact lsub_n | with_reducible refine lsub_c ?_ ?_ | with_reducible refine lk_hit ?_ | with_reducible refine lk_miss (by decide) ?_ ?_ | (first | exact rfl | (rw [hq]; done) | (rw [hq]; exact rfl)))) (IHk (k + 1) (by omega) (by omega))
                  · skip
                    rw [b2c_n0, hal] at b186
                    have hq : cu_ h sN nC nR z (k + 1) = nI k := by rw [cu_s]; exact cf_t ⟨hcb, b186⟩
                    refine v_iload_n dX4_culprits_189 rfl rfl ?_
                    refine v_goto (tgt := 194) dX4_culprits_190 (by decide) ?_
                    refine v_istore_n dX4_culprits_194 rfl (by decide) ?_
                    refine v_iinc dX4_culprits_195 rfl (by first | with_reducible exact nI_inc _ | exact rfl) (by decide) ?_
                    refine v_goto (tgt := 77) dX4_culprits_198 (by decide) ?_
                    refine v_loc2 (by repeat' (first | with_reducible exact lsub_n | with_reducible refine lsub_c ?_ ?_ | with_reducible refine lk_hit ?_ | with_reducible refine lk_miss (by decide) ?_ ?_ | (first | exact rfl | (rw [hq]; done) | (rw [hq]; exact rfl)))) (IHk (k + 1) (by omega) (by omega))
                · skip
                  rw [b2c_n0] at b123
                  refine v_iload_n dX4_culprits_126 rfl rfl ?_
                  refine v_iload dX4_culprits_127 rfl ?_
                  refine v_pS mtX4_has q1859 q1860 dX4_culprits_129 (c_X4_has _ _) (by decide) ?_
                  refine v_if_eq (tgt := 171) dX4_culprits_132 (by decide) (fun b132 => ?_) (fun b132 => ?_)
                  · skip
                    rw [b2i_0, has_bit (by omega) (by omega)] at b132
                    have hnx : al_r h sN nC z k (r + 1) := fun q hq => (Nat.lt_succ_iff_lt_or_eq.mp hq).elim (b123 q) (fun u => by subst u; exact fun y => absurd y b132)
                    refine v_iconst (v := 1) dX4_culprits_171 (by decide) ?_
                    rw [show (1 : Int32) = b2c (al_r h sN nC z k (r + 1)) from (b2c_t hnx).symm]
                    refine v_goto (tgt := 176) dX4_culprits_172 (by decide) ?_
                    refine v_istore dX4_culprits_176 (by decide) ?_
                    refine v_iinc dX4_culprits_178 rfl (by first | with_reducible exact nI_inc _ | exact rfl) (by decide) ?_
                    refine v_goto (tgt := 112) dX4_culprits_181 (by decide) ?_
                    refine v_loc2 (by repeat' (first | with_reducible exact lsub_n | with_reducible refine lsub_c ?_ ?_ | with_reducible refine lk_hit ?_ | with_reducible refine lk_miss (by decide) ?_ ?_ | exact rfl)) (IHr (r + 1) (by omega) (by omega))
                  · skip
                    rw [b2i_n0, has_bit (by omega) (by omega)] at b132
                    have hokr := hoks r hkr b132
                    obtain ⟨-, ek, ⟨an, bn, hab, hbn, e4, e5⟩, -⟩ := hR.2.2 r hkr
                    obtain ⟨-, ⟨tn, htn, e2⟩, ⟨xn, hxn, e3⟩⟩ := ek.resolve_right (fun y => by have := hokr.1; rw [this] at y; exact absurd y.1 (by decide))
                    have hth := hokr.2
                    rw [e2, nI_clamp (by omega)] at hth
                    have ecp : cp_r h sN nC k r ↔ hr_ (fun i τ x => br_ (hp_I h 243) (ct_ h) nC sN 0 k i τ x) (2 * sN) sN (wh_ (hp_I h 243) tn (nI an) (nMov (hp_I h 243))).toNatClampNeg an (bn + 1 - an) xn := by
                     unfold cp_r
                     rw [e2, e3, e4, e5]
                     simp (disch := omega) only [nI_clamp]
                     exact Iff.rfl
                    refine v_aload_n dX4_culprits_135 rfl rfl ?_
                    refine v_aload_n dX4_culprits_136 rfl rfl ?_
                    refine v_iload dX4_culprits_137 rfl ?_
                    refine v_iconst (v := nI 2) dX4_culprits_139 (by decide) ?_
                    refine v_pV mtX4_tellsOf q2053 q2055 qs96 rfl (by decide) dX4_culprits_140 (c_X4_tellsOf hm ?_) (mK_obj hm) (by decide) ?_
                    · omega
                    rw [e249, e2]
                    refine v_aload_n dX4_culprits_143 rfl rfl ?_
                    refine v_iload dX4_culprits_144 rfl ?_
                    refine v_iconst (v := nI 3) dX4_culprits_146 (by decide) ?_
                    refine v_pV mtX4_tellsOf q2053 q2055 qs96 rfl (by decide) dX4_culprits_147 (c_X4_tellsOf hm ?_) (mK_obj hm) (by decide) ?_
                    · omega
                    rw [e249, e3]
                    refine v_iload_n dX4_culprits_150 rfl rfl ?_
                    refine v_aload_n dX4_culprits_151 rfl rfl ?_
                    refine v_iload dX4_culprits_152 rfl ?_
                    refine v_iconst (v := nI 4) dX4_culprits_154 (by decide) ?_
                    refine v_pV mtX4_tellsOf q2053 q2055 qs96 rfl (by decide) dX4_culprits_155 (c_X4_tellsOf hm ?_) (mK_obj hm) (by decide) ?_
                    · omega
                    rw [e249, e4]
                    refine v_aload_n dX4_culprits_158 rfl rfl ?_
                    refine v_iload dX4_culprits_159 rfl ?_
                    refine v_iconst (v := nI 5) dX4_culprits_161 (by decide) ?_
                    refine v_pV mtX4_tellsOf q2053 q2055 qs96 rfl (by decide) dX4_culprits_162 (c_X4_tellsOf hm ?_) (mK_obj hm) (by decide) ?_
                    · omega
                    rw [e249, e5]
                    refine v_pV mtX4_hasPass q2140 q2142 qs111 rfl (by decide) dX4_culprits_165 (c_X4_hasPass (P := k) (th := tn) (g := xn) (a := an) (b := bn) hv hLd (by omega) hth (by omega) hab (by omega)) (mK_obj hm) (by decide) ?_
                    refine v_if_eq (tgt := 175) dX4_culprits_168 (by decide) (fun b168 => ?_) (fun b168 => ?_)
                    · skip
                      rw [b2c_0] at b168
                      have hnx : ¬ al_r h sN nC z k (r + 1) := fun y => b168 (ecp.mp (y r (by omega) b132))
                      refine v_iconst (v := 0) dX4_culprits_175 (by decide) ?_
                      rw [show (0 : Int32) = b2c (al_r h sN nC z k (r + 1)) from (b2c_f hnx).symm]
                      refine v_istore dX4_culprits_176 (by decide) ?_
                      refine v_iinc dX4_culprits_178 rfl (by first | with_reducible exact nI_inc _ | exact rfl) (by decide) ?_
                      refine v_goto (tgt := 112) dX4_culprits_181 (by decide) ?_
                      refine v_loc2 (by repeat' (first | with_reducible exact lsub_n | with_reducible refine lsub_c ?_ ?_ | with_reducible refine lk_hit ?_ | with_reducible refine lk_miss (by decide) ?_ ?_ | exact rfl)) (IHr (r + 1) (by omega) (by omega))
                    · skip
                      rw [b2c_n0] at b168
                      have hnx : al_r h sN nC z k (r + 1) := fun q hq => (Nat.lt_succ_iff_lt_or_eq.mp hq).elim (b123 q) (fun u => by subst u; exact fun _ => ecp.mpr b168)
                      refine v_iconst (v := 1) dX4_culprits_171 (by decide) ?_
                      rw [show (1 : Int32) = b2c (al_r h sN nC z k (r + 1)) from (b2c_t hnx).symm]
                      refine v_goto (tgt := 176) dX4_culprits_172 (by decide) ?_
                      refine v_istore dX4_culprits_176 (by decide) ?_
                      refine v_iinc dX4_culprits_178 rfl (by first | with_reducible exact nI_inc _ | exact rfl) (by decide) ?_
                      refine v_goto (tgt := 112) dX4_culprits_181 (by decide) ?_
                      refine v_loc2 (by repeat' (first | with_reducible exact lsub_n | with_reducible refine lsub_c ?_ ?_ | with_reducible refine lk_hit ?_ | with_reducible refine lk_miss (by decide) ?_ ?_ | exact rfl)) (IHr (r + 1) (by omega) (by omega))
            · skip
              rw [nI_ltI (by have := on_le k; have := on_le jb; omega) (by have := on_le k; have := on_le jb; omega)] at b100
              have hq : cu_ h sN nC nR z (k + 1) = cu_ h sN nC nR z k := by rw [cu_s]; exact cf_f (fun y => y.1.elim b89 (fun u => b100 (by rw [ejb, nI_clamp (by omega)] at u; exact u)))
              refine v_goto (tgt := 195) dX4_culprits_103 (by decide) ?_
              refine v_iinc dX4_culprits_195 rfl (by first | with_reducible exact nI_inc _ | exact rfl) (by decide) ?_
              refine v_goto (tgt := 77) dX4_culprits_198 (by decide) ?_
              refine v_loc2 (by repeat' (first | with_reducible exact lsub_n | with_reducible refine lsub_c ?_ ?_ | with_reducible refine lk_hit ?_ | with_reducible refine lk_miss (by decide) ?_ ?_ | (first | exact rfl | (rw [hq]; done) | (rw [hq]; exact rfl)))) (IHk (k + 1) (by omega) (by omega))
      · skip
        rw [nI_leI (by omega) (by omega)] at b28
        have hk : r < nR := by omega
        refine v_iload_n dX4_culprits_31 rfl rfl ?_
        refine v_iload_n dX4_culprits_32 rfl rfl ?_
        refine v_pS mtX4_has q1859 q1860 dX4_culprits_33 (c_X4_has _ _) (by decide) ?_
        refine v_if_eq (tgt := 62) dX4_culprits_36 (by decide) (fun b36 => ?_) (fun b36 => ?_)
        · skip
          rw [b2i_0, has_bit (by omega) (by omega)] at b36
          have hok : z.testBit r = true → ok_r h r := fun y => absurd y b36
          refine v_iinc dX4_culprits_62 rfl (by first | with_reducible exact nI_inc _ | exact rfl) (by decide) ?_
          refine v_goto (tgt := 23) dX4_culprits_65 (by decide) ?_
          refine v_loc2 (by repeat' (first | with_reducible exact lsub_n | with_reducible refine lsub_c ?_ ?_ | with_reducible refine lk_hit ?_ | with_reducible refine lk_miss (by decide) ?_ ?_ | exact rfl)) (IHr (r + 1) ⟨by omega, fun q hq => (Nat.lt_succ_iff_lt_or_eq.mp hq).elim (hoks q) (fun u => by subst u; exact hok)⟩ (by omega))
        · skip
          rw [b2i_n0, has_bit (by omega) (by omega)] at b36
          refine v_aload_n dX4_culprits_39 rfl rfl ?_
          refine v_iload_n dX4_culprits_40 rfl rfl ?_
          refine v_pV mtX4_isOfThing q2081 q2083 qs100 rfl (by decide) dX4_culprits_41 (c_X4_isOfThing (nR := nR) hm hR.1 hR9 _) (mK_obj hm) (by decide) ?_
          refine v_if_eq (tgt := 60) dX4_culprits_44 (by decide) (fun b44 => ?_) (fun b44 => ?_)
          · skip
            rw [b2i_0, th_49] at b44
            have hno : ¬ ((0 < nI z ∧ nI z < nI (2 ^ nR)) ∧ ∀ r, r < nR → (nI z).toNatClampNeg.testBit r = true → ok_r h r) := fun y => b44 ⟨⟨Int32.not_lt.mp (nI_pos (by omega)), (nI_ltI (by omega) (by omega)).mpr hk⟩, by rw [nI_clamp (by omega)]; exact (y.2 r hk (by rw [nI_clamp (by omega)]; exact b36)).1⟩
            refine v_iconst (v := (-1)) dX4_culprits_60 (by decide) ?_
            exact v_reti dX4_culprits_61 rfl (Pf_i hpt (by unfold sp_culprits; rw [cf_f hno]))
          · skip
            rw [b2i_n0, th_49, nI_clamp (by omega)] at b44
            obtain ⟨-, ek, ⟨an, bn, hab, hbn, e4, e5⟩, -⟩ := hR.2.2 r hk
            obtain ⟨-, ⟨tn, htn, e2⟩, ⟨xn, hxn, e3⟩⟩ := ek.resolve_right (fun y => by rw [b44.2] at y; exact absurd y.1 (by decide))
            refine v_aload_n dX4_culprits_47 rfl rfl ?_
            refine v_aload_n dX4_culprits_48 rfl rfl ?_
            refine v_iload_n dX4_culprits_49 rfl rfl ?_
            refine v_iconst (v := nI 2) dX4_culprits_50 (by decide) ?_
            refine v_pV mtX4_tellsOf q2053 q2055 qs96 rfl (by decide) dX4_culprits_51 (c_X4_tellsOf hm ?_) (mK_obj hm) (by decide) ?_
            · omega
            rw [th_49, e2]
            refine v_pV mtX4_isThing q1851 q1853 qs64 rfl (by decide) dX4_culprits_54 (c_X4_isThing hm _) (mK_obj hm) (by decide) ?_
            refine v_if_ne (tgt := 62) dX4_culprits_57 (by decide) (fun b57 => ?_) (fun b57 => ?_)
            · skip
              rw [b2i_n0, th_33, hlaid.2] at b57
              have hok : z.testBit r = true → ok_r h r := fun _ => ⟨b44.2, by rw [e2, nI_clamp (by omega)]; exact (nI_ltI (by omega) (by omega)).mp b57.2⟩
              refine v_iinc dX4_culprits_62 rfl (by first | with_reducible exact nI_inc _ | exact rfl) (by decide) ?_
              refine v_goto (tgt := 23) dX4_culprits_65 (by decide) ?_
              refine v_loc2 (by repeat' (first | with_reducible exact lsub_n | with_reducible refine lsub_c ?_ ?_ | with_reducible refine lk_hit ?_ | with_reducible refine lk_miss (by decide) ?_ ?_ | exact rfl)) (IHr (r + 1) ⟨by omega, fun q hq => (Nat.lt_succ_iff_lt_or_eq.mp hq).elim (hoks q) (fun u => by subst u; exact hok)⟩ (by omega))
            · skip
              rw [b2i_0, th_33, hlaid.2] at b57
              have hno : ¬ ((0 < nI z ∧ nI z < nI (2 ^ nR)) ∧ ∀ r, r < nR → (nI z).toNatClampNeg.testBit r = true → ok_r h r) := fun y => b57 ⟨Int32.not_lt.mp (nI_pos (by omega)), (nI_ltI (by omega) (by omega)).mpr (by have := (y.2 r hk (by rw [nI_clamp (by omega)]; exact b36)).2; rw [e2, nI_clamp (by omega)] at this; exact this)⟩
              refine v_iconst (v := (-1)) dX4_culprits_60 (by decide) ?_
              exact v_reti dX4_culprits_61 rfl (Pf_i hpt (by unfold sp_culprits; rw [cf_f hno]))
    · skip
      have hno : ¬ ((0 < r0 ∧ r0 < nI (2 ^ nR)) ∧ ∀ r, r < nR → r0.toNatClampNeg.testBit r = true → ok_r h r) := fun y => b16 y.1.2
      refine v_iconst (v := (-1)) dX4_culprits_19 (by decide) ?_
      exact v_reti dX4_culprits_20 rfl (Pf_i hpt (by unfold sp_culprits; rw [cf_f hno]))

