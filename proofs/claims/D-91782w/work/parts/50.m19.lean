set_option maxRecDepth 100000
noncomputable def sp_closes (h : AH) (sN nC nW : Nat) (S th g s e : Int32) (hx : AH) : Int32 × AH :=
  (cf_ ((0 ≤ S ∧ S ≤ nI (2 ^ nC - 1)) ∧ tsk_ h th g s e) (b2c (dc_ (hp_I h 243) (ct_ h) nC sN S h nW th.toNatClampNeg g.toNatClampNeg s.toNatClampNeg e.toNatClampNeg)) (-1), hx)
theorem dc_fx {A : Nat → Int32} {C : Nat → Nat → Int32} {nC sN nW th g s e : Nat} {S : Int32} {h h1 : AH} (a : fx_ h h1) : dc_ A C nC sN S h1 nW th g s e ↔ dc_ A C nC sN S h nW th g s e := by
  unfold dc_
  simp only [fiv_fx a]
theorem fiv_th {A : Nat → Int32} {C : Nat → Nat → Int32} {nC sN : Nat} {S : Int32} {h : AH} {w p f th g s e : Nat} : fiv_ A C nC sN S (th_ h) w p f th g s e = fiv_ A C nC sN S h w p f th g s e := fiv_h (th_A (by decide)) (th_A (by decide)) (th_A (by decide)) (th_A (by decide))
theorem dc_th {A : Nat → Int32} {C : Nat → Nat → Int32} {nC sN nW th g s e : Nat} {S : Int32} {h : AH} : dc_ A C nC sN S (th_ h) nW th g s e ↔ dc_ A C nC sN S h nW th g s e := by
  unfold dc_
  simp only [fiv_th]
set_option maxHeartbeats 1000000 in
theorem c_X4_closes {G : Gv} {h : AH} {sN nC : Nat} (hS : MS_ h sN nC) {nW : Nat} (hW : WX_ h nW) (S th g s e : Int32) : Ctr G 8 yX4_closes cX4_closes 6 (some .int) [.ref 241, .int S, .int th, .int g, .int s, .int e] h 0 0 (Pf h (sp_closes h sN nC nW S th g s e)) := by
  refine ctr_of (own := RX4) (nm := "closes") (by decide) (Nat.le_of_ble_eq_true rfl) ?_
  have hm := hS.1
  have hS0 := MS_th hS
  have hs := hS.2.1
  have hv := hS.2.2.1
  have h3 := sv_s hv
  have hpt := fp_th h
  have hC8 := hS.2.2.2.2.1
  have hCt : hp_I (th_ h) 241 48 = nI nC := hS.2.2.2.1
  refine v_aload_n dX4_closes_0 rfl rfl ?_
  refine v_iconst (v := 0) dX4_closes_1 (by decide) ?_
  refine v_thr fX4_1 dX4_closes_2 hm ?_
  have hm := MI_th hm
  refine v_cut 28 ((0 ≤ S ∧ S ≤ nI (2 ^ nC - 1)) ∧ tsk_ h th g s e) (fun hz28 => ?_) (fun hc28 => ?_)
  · skip
    obtain ⟨q1, q4, q5, q6⟩ := hz28
    rw [(sv_laid hv).2] at q4
    rw [hs] at q5
    have hlaid := (sv_laid hv).1
    obtain ⟨thn, hthn, rfl⟩ := nI_rng q4 (by omega)
    obtain ⟨gn, hgn, rfl⟩ := nI_rngE q5 (by omega)
    obtain ⟨sn, en, hse, hen, rfl, rfl⟩ := sec2 q6
    refine v_aload_n dX4_closes_28 rfl rfl ?_
    refine v_iload_n dX4_closes_29 rfl rfl ?_
    refine v_iload_n dX4_closes_30 rfl rfl ?_
    refine v_iload_n dX4_closes_31 rfl rfl ?_
    refine v_iload dX4_closes_32 rfl ?_
    refine v_iload dX4_closes_34 rfl ?_
    refine v_zV mtX4_doesClose q2162 q2164 qs113 rfl (by decide) dX4_closes_36 (c_X4_doesClose (th := thn) (g := gn) (s := sn) (e := en) hS0 (WX_th hW) _ hthn (by omega) hse (by omega)) (mK_obj hm) (by decide) (fun r36 h36 q36 z36 => ?_)
    obtain ⟨rfl, hfx⟩ := q36
    rw [th_33, th_ct, propext dc_th]
    refine v_if_eq (tgt := 46) dX4_closes_39 (by decide) (fun b39 => ?_) (fun b39 => ?_)
    · skip
      refine v_iconst (v := 0) dX4_closes_46 (by decide) ?_
      refine v_reti dX4_closes_47 rfl (Pf_i (fp_tr hpt (fp_fx hfx)) ?_)
      unfold sp_closes
      rw [← hs] at q5
      rw [← (sv_laid hv).2] at q4
      rw [cf_t ⟨q1, q4, q5, q6⟩]
      simp (disch := omega) only [nI_clamp]
      first | (rw [b2c_n0] at b39; exact congrArg (fun z => (z, _)) (b2c_t b39)) | (rw [b2c_0] at b39; exact congrArg (fun z => (z, _)) (b2c_f b39))
    · skip
      refine v_iconst (v := 1) dX4_closes_42 (by decide) ?_
      refine v_goto (tgt := 47) dX4_closes_43 (by decide) ?_
      refine v_reti dX4_closes_47 rfl (Pf_i (fp_tr hpt (fp_fx hfx)) ?_)
      unfold sp_closes
      rw [← hs] at q5
      rw [← (sv_laid hv).2] at q4
      rw [cf_t ⟨q1, q4, q5, q6⟩]
      simp (disch := omega) only [nI_clamp]
      first | (rw [b2c_n0] at b39; exact congrArg (fun z => (z, _)) (b2c_t b39)) | (rw [b2c_0] at b39; exact congrArg (fun z => (z, _)) (b2c_f b39))
  · skip
    refine v_cut 26 (¬ ((0 ≤ S ∧ S ≤ nI (2 ^ nC - 1)) ∧ tsk_ h th g s e)) (fun hz26 => ?_) (fun hc26 => ?_)
    · skip
      refine v_iconst (v := (-1)) dX4_closes_26 (by decide) ?_
      exact v_reti dX4_closes_27 rfl (Pf_i hpt (by unfold sp_closes; rw [cf_f hz26]))
    · skip
      refine v_aload_n dX4_closes_5 rfl rfl ?_
      refine v_iload_n dX4_closes_6 rfl rfl ?_
      refine v_pV mtX4_isSet q2158 q2160 qs112 rfl (by decide) dX4_closes_7 (c_X4_isSet hm hCt hC8 _) (mK_obj hm) (by decide) ?_
      refine v_if_eq (tgt := 26) dX4_closes_10 (by decide) (fun b10 => ?_) (fun b10 => ?_)
      · skip
        exact hc26 (by unfold tsk_; (try simp only [b2i_0, b2i_n0] at *); (try simp only [th_4, th_33] at *); grind)
      · skip
        refine v_aload_n dX4_closes_13 rfl rfl ?_
        refine v_iload_n dX4_closes_14 rfl rfl ?_
        refine v_iload_n dX4_closes_15 rfl rfl ?_
        refine v_iload dX4_closes_16 rfl ?_
        refine v_iload dX4_closes_18 rfl ?_
        refine v_pV mtX4_isTask q2000 q2002 qs85 rfl (by decide) dX4_closes_20 (c_X4_isTask hm _ _ _ _) (mK_obj hm) (by decide) ?_
        refine v_if_ne (tgt := 28) dX4_closes_23 (by decide) (fun b23 => ?_) (fun b23 => ?_)
        · skip
          exact hc28 (by unfold tsk_; (try simp only [b2i_0, b2i_n0] at *); (try simp only [th_4, th_33] at *); grind)
        · skip
          exact hc26 (by unfold tsk_; (try simp only [b2i_0, b2i_n0] at *); (try simp only [th_4, th_33] at *); grind)

