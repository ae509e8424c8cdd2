set_option maxRecDepth 100000
/-- the ways, well made -/
def WX_ (h : AH) (nW : Nat) : Prop := hp_I h 241 15 = nI nW ∧ nW ≤ 8 ∧ ∀ w, w < nW → ∃ k, hp_I h 254 w = nI k ∧ wk_ (hp_I h 255) (hp_I h 256) (hp_I h 257) w k
theorem WX_WY {h : AH} {nW : Nat} (a : WX_ h nW) : WY_ h nW := ⟨a.1, a.2.1, fun w hw => by
  obtain ⟨k, h1, h2⟩ := a.2.2 w hw
  exact ⟨k, by have := h2.1; omega, h1⟩⟩
theorem WX_th {h : AH} {nW : Nat} (a : WX_ h nW) : WX_ (th_ h) nW := by
  refine ⟨a.1, a.2.1, ?_⟩
  rw [th_A (by decide), th_A (by decide), th_A (by decide), th_A (by decide)]
  exact a.2.2
theorem WX_fr {h h1 : AH} {nW : Nat} (a : WX_ h nW) (f : fr_ h h1) : WX_ h1 nW := by
  refine ⟨by rw [fr_31 f]; exact a.1, a.2.1, ?_⟩
  rw [f.2.2.2.2 254 (Or.inr (by decide)), f.2.2.2.2 255 (Or.inr (by decide)), f.2.2.2.2 256 (Or.inr (by decide)), f.2.2.2.2 257 (Or.inr (by decide))]
  exact a.2.2
theorem WX_r6 {h h1 : AH} {nW : Nat} (a : WX_ h nW) (f : r6_ h h1) : WX_ h1 nW := by
  refine ⟨by rw [f.2.2.2.2.2 15 (by omega)]; exact a.1, a.2.1, ?_⟩
  rw [f.2.2.2.2.1 254 (by decide), f.2.2.2.2.1 255 (by decide), f.2.2.2.2.1 256 (by decide), f.2.2.2.2.1 257 (by decide)]
  exact a.2.2
theorem RP_r6 {h h1 : AH} {nR sN : Nat} (f : r6_ h h1) (b : RP_ h nR sN) : RP_ h1 nR sN := by
  unfold RP_
  rw [f.2.2.2.2.2 42 (by omega), f.2.2.2.2.1 259 (by decide)]
  exact b
/-- the second from which way w, run by p with friends f, fits a task, else -1 -/
noncomputable def fiv_ (A : Nat → Int32) (C : Nat → Nat → Int32) (nC sN : Nat) (S : Int32) (h : AH) (w p f th g s e : Nat) : Int32 := ft_ (fun s => run_ A C nC sN S (hp_I h 255) (hp_I h 256) (hp_I h 257) w (hp_I h 254 w).toNatClampNeg (2 ^ p ||| f) p (wh_ A th (nI s) (nMov A)).toNatClampNeg g s e) s (e + 1 - s)
theorem fiv_k {A : Nat → Int32} {C : Nat → Nat → Int32} {nC sN : Nat} {S : Int32} {h : AH} {w k p f th g s e : Nat} (hst : hp_I h 254 w = nI k) (hk : k ≤ 8) : ft_ (fun s => run_ A C nC sN S (hp_I h 255) (hp_I h 256) (hp_I h 257) w k (2 ^ p ||| f) p (wh_ A th (nI s) (nMov A)).toNatClampNeg g s e) s (e + 1 - s) = fiv_ A C nC sN S h w p f th g s e := by
  unfold fiv_
  rw [hst, nI_clamp (by omega)]
theorem fiv_h {A : Nat → Int32} {C : Nat → Nat → Int32} {nC sN : Nat} {S : Int32} {h h1 : AH} {w p f th g s e : Nat} (e4 : hp_I h1 254 = hp_I h 254) (e5 : hp_I h1 255 = hp_I h 255) (e6 : hp_I h1 256 = hp_I h 256) (e7 : hp_I h1 257 = hp_I h 257) : fiv_ A C nC sN S h1 w p f th g s e = fiv_ A C nC sN S h w p f th g s e := by
  unfold fiv_
  rw [e4, e5, e6, e7]
theorem fiv_fr {A : Nat → Int32} {C : Nat → Nat → Int32} {nC sN : Nat} {S : Int32} {h h1 : AH} {w p f th g s e : Nat} (a : fr_ (th_ h) h1) : fiv_ A C nC sN S h1 w p f th g s e = fiv_ A C nC sN S h w p f th g s e :=
  fiv_h ((a.2.2.2.2 254 (Or.inr (by decide))).trans (th_A (by decide))) ((a.2.2.2.2 255 (Or.inr (by decide))).trans (th_A (by decide))) ((a.2.2.2.2 256 (Or.inr (by decide))).trans (th_A (by decide))) ((a.2.2.2.2 257 (Or.inr (by decide))).trans (th_A (by decide)))
theorem fiv_r6 {A : Nat → Int32} {C : Nat → Nat → Int32} {nC sN : Nat} {S : Int32} {h h1 : AH} {w p f th g s e : Nat} (a : r6_ h h1) : fiv_ A C nC sN S h1 w p f th g s e = fiv_ A C nC sN S h w p f th g s e :=
  fiv_h (a.2.2.2.2.1 254 (by decide)) (a.2.2.2.2.1 255 (by decide)) (a.2.2.2.2.1 256 (by decide)) (a.2.2.2.2.1 257 (by decide))
def tsk_ (h : AH) (th x a b : Int32) : Prop := (0 ≤ th ∧ th < hp_I h 243 4881) ∧ (0 ≤ x ∧ x ≤ hp_I h 241 4) ∧ (0 ≤ a ∧ a ≤ b ∧ b ≤ 99)
noncomputable def sp_fits (h : AH) (sN nC : Nat) (w p f th g s e : Int32) (hx : AH) : Int32 × AH :=
  (cf_ ((0 ≤ w ∧ w < hp_I h 241 15) ∧ (0 ≤ p ∧ p < hp_I h 241 4) ∧ (0 ≤ f ∧ f ≤ nI (2 ^ sN - 1)) ∧ tsk_ h th g s e) (fiv_ (hp_I h 243) (ct_ h) nC sN 0 h w.toNatClampNeg p.toNatClampNeg f.toNatClampNeg th.toNatClampNeg g.toNatClampNeg s.toNatClampNeg e.toNatClampNeg) (-1), hx)
/-- report r's thing could have been moved so by p with friends f through way w -/
def sto_ (A : Nat → Int32) (C : Nat → Nat → Int32) (nC sN : Nat) (S : Int32) (h : AH) (r w p f : Nat) : Prop := (hp_I h 259 (7 * r + 2)).toNatClampNeg < nLaid A ∧ ¬ fiv_ A C nC sN S h w p f (hp_I h 259 (7 * r + 2)).toNatClampNeg (hp_I h 259 (7 * r + 3)).toNatClampNeg (hp_I h 259 (7 * r + 4)).toNatClampNeg (hp_I h 259 (7 * r + 5)).toNatClampNeg = -1
theorem sto_r6 {A : Nat → Int32} {C : Nat → Nat → Int32} {nC sN : Nat} {S : Int32} {h h1 : AH} {r w p f : Nat} (a : r6_ h h1) : sto_ A C nC sN S h1 r w p f ↔ sto_ A C nC sN S h r w p f := by
  unfold sto_
  rw [fiv_r6 a, a.2.2.2.2.1 259 (by decide)]
set_option maxHeartbeats 1000000 in
theorem c_X4_fits {G : Gv} {h : AH} {sN nC : Nat} (hS : MS_ h sN nC) {nW : Nat} (hW : WX_ h nW) (w p f th g s e : Int32) : Ctr G 7 yX4_fits cX4_fits 8 (some .int) [.ref 241, .int w, .int p, .int f, .int th, .int g, .int s, .int e] h 0 0 (Pf h (sp_fits h sN nC w p f th g s e)) := by
  refine ctr_of (own := RX4) (nm := "fits") (by decide) (Nat.le_of_ble_eq_true rfl) ?_
  have hm := hS.1
  have hS0 := MS_th hS
  have hs := hS.2.1
  have hv := hS.2.2.1
  have h3 := sv_s hv
  have hpt := fp_th h
  have hW1 := hW.1
  have hW2 := hW.2.1
  have hW1t : hp_I (th_ h) 241 15 = nI nW := hW.1
  have hle := le_pred (x := w) (n := nW) (by omega)
  refine v_aload_n dX4_fits_0 rfl rfl ?_
  refine v_iconst (v := 0) dX4_fits_1 (by decide) ?_
  refine v_thr fX4_1 dX4_fits_2 hm ?_
  have hm := MI_th hm
  refine v_cut 64 ((0 ≤ w ∧ w < hp_I h 241 15) ∧ (0 ≤ p ∧ p < hp_I h 241 4) ∧ (0 ≤ f ∧ f ≤ nI (2 ^ sN - 1)) ∧ tsk_ h th g s e) (fun hz64 => ?_) (fun hc64 => ?_)
  · skip
    obtain ⟨q1, q2, q3, q4, q5, q6⟩ := hz64
    rw [hW1] at q1
    rw [hs] at q2 q5
    rw [(sv_laid hv).2] at q4
    have hlaid := (sv_laid hv).1
    obtain ⟨wn, hwn, rfl⟩ := nI_rng q1 (by omega)
    obtain ⟨pn, hpn, rfl⟩ := nI_rng q2 (by omega)
    have h2p : 2 ^ sN ≤ 2 ^ 9 := Nat.pow_le_pow_right (by decide) h3.2
    obtain ⟨fn, hfn, rfl⟩ := nI_rngE q3 (by omega)
    obtain ⟨thn, hthn, rfl⟩ := nI_rng q4 (by omega)
    obtain ⟨gn, hgn, rfl⟩ := nI_rngE q5 (by omega)
    obtain ⟨sn, en, hse, hen, rfl, rfl⟩ := sec2 q6
    obtain ⟨kn, hst, hwk⟩ := hW.2.2 wn hwn
    refine v_aload_n dX4_fits_64 rfl rfl ?_
    refine v_iconst (v := nI 0) dX4_fits_65 (by decide) ?_
    refine v_zV mtX4_lays q1855 q1857 qs65 rfl (by decide) dX4_fits_66 (c_lays hS0 _) (mK_obj hm) (by decide) (fun r66 h66 q66 z66 => ?_)
    obtain ⟨rfl, hL⟩ := q66
    have hL : LY_ (th_ h) nC sN 0 h66 := hL
    have hm : MI h66 := (MS_fr hS0 hL.1).1
    have hpx : fp_ h h66 := fp_tr (fp_th h) (fp_fr hL.1)
    have hLd : LD_ (hp_I h 243) (ct_ h) nC sN 0 h66 := by
     have z := LY_LD hS0 hL
     rw [th_33, th_ct] at z
     exact z
    have hstx : hp_I h66 254 wn = nI kn := by rw [hL.1.2.2.2.2 254 (Or.inr (by decide)), th_A (by decide)]; exact hst
    have hwkx : wk_ (hp_I h66 255) (hp_I h66 256) (hp_I h66 257) wn kn := by rw [hL.1.2.2.2.2 255 (Or.inr (by decide)), hL.1.2.2.2.2 256 (Or.inr (by decide)), hL.1.2.2.2.2 257 (Or.inr (by decide)), th_A (by decide), th_A (by decide), th_A (by decide)]; exact hwk
    refine v_aload_n dX4_fits_69 rfl rfl ?_
    refine v_iload_n dX4_fits_70 rfl rfl ?_
    refine v_iload_n dX4_fits_71 rfl rfl ?_
    refine v_iload_n dX4_fits_72 rfl rfl ?_
    refine v_iload dX4_fits_73 rfl ?_
    refine v_iload dX4_fits_75 rfl ?_
    refine v_iload dX4_fits_77 rfl ?_
    refine v_iload dX4_fits_79 rfl ?_
    refine v_zV mtX4_fitsAt q2004 q2006 qs86 rfl (by decide) dX4_fits_81 (c_X4_fitsAt (k := kn) (w := wn) (f := fn) (th := thn) (g := gn) (s := sn) (e := en) hv hLd hpn (by omega) hthn (by omega) hse (by omega) (by omega) hstx hwkx) (mK_obj hm) (by decide) (fun r81 h81 q81 z81 => ?_)
    obtain ⟨rfl, hr6⟩ := q81
    rw [fiv_k hstx hwk.1, fiv_fr hL.1]
    refine v_reti dX4_fits_84 rfl (Pf_i (fp_tr hpx (fp_r6 hr6)) ?_)
    unfold sp_fits
    rw [← hW1] at q1
    rw [← hs] at q2 q5
    rw [← (sv_laid hv).2] at q4
    rw [cf_t ⟨q1, q2, q3, q4, q5, q6⟩]
    simp (disch := omega) only [nI_clamp]
  · skip
    refine v_cut 62 (¬ ((0 ≤ w ∧ w < hp_I h 241 15) ∧ (0 ≤ p ∧ p < hp_I h 241 4) ∧ (0 ≤ f ∧ f ≤ nI (2 ^ sN - 1)) ∧ tsk_ h th g s e)) (fun hz62 => ?_) (fun hc62 => ?_)
    · skip
      refine v_iconst (v := (-1)) dX4_fits_62 (by decide) ?_
      exact v_reti dX4_fits_63 rfl (Pf_i hpt (by unfold sp_fits; rw [cf_f hz62]))
    · skip
      refine v_iload_n dX4_fits_5 rfl rfl ?_
      refine v_i2l dX4_fits_6 ?_
      refine v_lconst (v := (0 : Int32).toInt64) dX4_fits_7 (by decide) ?_
      refine v_aload_n dX4_fits_8 rfl rfl ?_
      refine v_getI fX4_297 dX4_fits_9 (mK_obj hm) ?_
      rw [hW1t]
      refine v_iconst (v := 1) dX4_fits_12 (by decide) ?_
      refine v_isub dX4_fits_13 ?_
      refine v_i2l dX4_fits_14 ?_
      refine v_pS mtX4_within q1790 q1791 dX4_fits_15 (c_X4_within _ _ _) (by decide) ?_
      refine v_if_eq (tgt := 62) dX4_fits_18 (by decide) (fun b18 => ?_) (fun b18 => ?_)
      · skip
        exact hc62 (by unfold tsk_; (try simp only [b2i_0, b2i_n0] at *); (try simp only [th_4, th_33] at *); grind)
      · skip
        refine v_aload_n dX4_fits_21 rfl rfl ?_
        refine v_iload_n dX4_fits_22 rfl rfl ?_
        refine v_pV mtX4_isPerson q1801 q1803 qs59 rfl (by decide) dX4_fits_23 (c_X4_isPerson hm _) (mK_obj hm) (by decide) ?_
        refine v_if_eq (tgt := 62) dX4_fits_26 (by decide) (fun b26 => ?_) (fun b26 => ?_)
        · skip
          exact hc62 (by unfold tsk_; (try simp only [b2i_0, b2i_n0] at *); (try simp only [th_4, th_33] at *); grind)
        · skip
          refine v_iload_n dX4_fits_29 rfl rfl ?_
          refine v_i2l dX4_fits_30 ?_
          refine v_lconst (v := (0 : Int32).toInt64) dX4_fits_31 (by decide) ?_
          refine v_iconst (v := 1) dX4_fits_32 (by decide) ?_
          refine v_aload_n dX4_fits_33 rfl rfl ?_
          refine v_getI fX4_24 dX4_fits_34 (mK_obj hm) ?_
          rw [th_4, hs]
          refine v_ishl dX4_fits_37 ?_
          rw [sh_1 (by omega)]
          refine v_iconst (v := 1) dX4_fits_38 (by decide) ?_
          refine v_isub dX4_fits_39 ?_
          rw [nI_sub1 (Nat.two_pow_pos _)]
          refine v_i2l dX4_fits_40 ?_
          refine v_pS mtX4_within q1790 q1791 dX4_fits_41 (c_X4_within _ _ _) (by decide) ?_
          refine v_if_eq (tgt := 62) dX4_fits_44 (by decide) (fun b44 => ?_) (fun b44 => ?_)
          · skip
            exact hc62 (by unfold tsk_; (try simp only [b2i_0, b2i_n0] at *); (try simp only [th_4, th_33] at *); grind)
          · skip
            refine v_aload_n dX4_fits_47 rfl rfl ?_
            refine v_iload dX4_fits_48 rfl ?_
            refine v_iload dX4_fits_50 rfl ?_
            refine v_iload dX4_fits_52 rfl ?_
            refine v_iload dX4_fits_54 rfl ?_
            refine v_pV mtX4_isTask q2000 q2002 qs85 rfl (by decide) dX4_fits_56 (c_X4_isTask hm _ _ _ _) (mK_obj hm) (by decide) ?_
            refine v_if_ne (tgt := 64) dX4_fits_59 (by decide) (fun b59 => ?_) (fun b59 => ?_)
            · skip
              exact hc64 (by unfold tsk_; (try simp only [b2i_0, b2i_n0] at *); (try simp only [th_4, th_33] at *); grind)
            · skip
              exact hc62 (by unfold tsk_; (try simp only [b2i_0, b2i_n0] at *); (try simp only [th_4, th_33] at *); grind)

theorem c_X4_isStory {G : Gv} {h : AH} {A : Nat → Int32} {C : Nat → Nat → Int32} {sN nC : Nat} {S : Int32} (hv : sv_ok A sN) (hL : LD_ A C nC sN S h) {nR nW r w p f : Nat} (hR : RP_ h nR sN) (hr : r < nR) (h0 : hp_I h 259 (7 * r + 1) = 0) (hW : WX_ h nW) (hw : w < nW) (hp : p < sN) (hf : f < 512) : Ctr G 7 yX4_isStory cX4_isStory 5 (some .boolean) [.ref 241, .int (nI r), .int (nI w), .int (nI p), .int (nI f)] h 0 0 (fun q h1 => q = some (.int (b2c (sto_ A C nC sN S h r w p f))) ∧ r6_ h h1) := by
  refine ctr_of (own := RX4) (nm := "isStory") (by decide) (Nat.le_of_ble_eq_true rfl) ?_
  have hm := hL.1
  have hs := hL.2.1
  have hA := hL.2.2.1
  have h3 := sv_s hv
  have hR9 := hR.2.1
  obtain ⟨-, ek, ⟨an, bn, hab, hbn, e4, e5⟩, -⟩ := hR.2.2 r hr
  obtain ⟨-, ⟨tn, htn, e2⟩, ⟨xn, hxn, e3⟩⟩ := ek.resolve_right (fun z => by rw [h0] at z; exact absurd z.1 (by decide))
  have hlaid := sv_laid hv
  obtain ⟨kn, hst, hwk⟩ := hW.2.2 w hw
  have hW2 := hW.2.1
  refine v_aload_n dX4_isStory_0 rfl rfl ?_
  refine v_aload_n dX4_isStory_1 rfl rfl ?_
  refine v_iload_n dX4_isStory_2 rfl rfl ?_
  refine v_iconst (v := nI 2) dX4_isStory_3 (by decide) ?_
  refine v_pV mtX4_tellsOf q2053 q2055 qs96 rfl (by decide) dX4_isStory_4 (c_X4_tellsOf hm ?_) (mK_obj hm) (by decide) ?_
  · omega
  rw [e2]
  refine v_pV mtX4_isThing q1851 q1853 qs64 rfl (by decide) dX4_isStory_7 (c_X4_isThing hm _) (mK_obj hm) (by decide) ?_
  refine v_if_eq (tgt := 53) dX4_isStory_10 (by decide) (fun b10 => ?_) (fun b10 => ?_)
  · skip
    rw [b2i_0, hA, hlaid.2] at b10
    have hq : ¬ sto_ A C nC sN S h r w p f := fun z => by
     have z1 := z.1
     rw [e2, nI_clamp (by omega)] at z1
     exact b10 ⟨nI_pos (by omega) |> Int32.not_lt.mp, (nI_ltI (by omega) (by omega)).mpr z1⟩
    refine v_iconst (v := 0) dX4_isStory_53 (by decide) ?_
    first | exact v_reti dX4_isStory_54 (by first | rfl | exact rt_c | exact rt_z | exact Or.inr rfl) ⟨congrArg (fun z => some (Value.int z)) (b2c_t hq).symm, hr6⟩ | exact v_reti dX4_isStory_54 (by first | rfl | exact rt_c | exact rt_z | exact Or.inr rfl) ⟨congrArg (fun z => some (Value.int z)) (b2c_f hq).symm, hr6⟩ | exact v_reti dX4_isStory_54 (by first | rfl | exact rt_c | exact rt_z | exact Or.inr rfl) ⟨congrArg (fun z => some (Value.int z)) (b2c_f hq).symm, r6_rf h⟩
  · skip
    rw [b2i_n0, hA, hlaid.2] at b10
    have hth := (nI_ltI (by omega) (by omega)).mp b10.2
    refine v_aload_n dX4_isStory_13 rfl rfl ?_
    refine v_iload_n dX4_isStory_14 rfl rfl ?_
    refine v_iload_n dX4_isStory_15 rfl rfl ?_
    refine v_iload dX4_isStory_16 rfl ?_
    refine v_aload_n dX4_isStory_18 rfl rfl ?_
    refine v_iload_n dX4_isStory_19 rfl rfl ?_
    refine v_iconst (v := nI 2) dX4_isStory_20 (by decide) ?_
    refine v_pV mtX4_tellsOf q2053 q2055 qs96 rfl (by decide) dX4_isStory_21 (c_X4_tellsOf hm ?_) (mK_obj hm) (by decide) ?_
    · omega
    rw [e2]
    refine v_aload_n dX4_isStory_24 rfl rfl ?_
    refine v_iload_n dX4_isStory_25 rfl rfl ?_
    refine v_iconst (v := nI 3) dX4_isStory_26 (by decide) ?_
    refine v_pV mtX4_tellsOf q2053 q2055 qs96 rfl (by decide) dX4_isStory_27 (c_X4_tellsOf hm ?_) (mK_obj hm) (by decide) ?_
    · omega
    rw [e3]
    refine v_aload_n dX4_isStory_30 rfl rfl ?_
    refine v_iload_n dX4_isStory_31 rfl rfl ?_
    refine v_iconst (v := nI 4) dX4_isStory_32 (by decide) ?_
    refine v_pV mtX4_tellsOf q2053 q2055 qs96 rfl (by decide) dX4_isStory_33 (c_X4_tellsOf hm ?_) (mK_obj hm) (by decide) ?_
    · omega
    rw [e4]
    refine v_aload_n dX4_isStory_36 rfl rfl ?_
    refine v_iload_n dX4_isStory_37 rfl rfl ?_
    refine v_iconst (v := nI 5) dX4_isStory_38 (by decide) ?_
    refine v_pV mtX4_tellsOf q2053 q2055 qs96 rfl (by decide) dX4_isStory_39 (c_X4_tellsOf hm ?_) (mK_obj hm) (by decide) ?_
    · omega
    rw [e5]
    refine v_zV mtX4_fitsAt q2004 q2006 qs86 rfl (by decide) dX4_isStory_42 (c_X4_fitsAt (k := kn) (w := w) (g := xn) (s := an) (e := bn) hv hL hp hf hth (by omega) hab (by omega) (by omega) hst hwk) (mK_obj hm) (by decide) (fun r42 h42 q42 z42 => ?_)
    obtain ⟨rfl, hr6⟩ := q42
    rw [fiv_k hst hwk.1]
    refine v_iconst (v := (-1)) dX4_isStory_45 (by decide) ?_
    refine v_icmp_eq (tgt := 53) dX4_isStory_46 (by decide) (fun b46 => ?_) (fun b46 => ?_)
    · skip
      have hq : ¬ sto_ A C nC sN S h r w p f := fun z => z.2 (by rw [e2, e3, e4, e5]; simp (disch := omega) only [nI_clamp]; exact b46)
      refine v_iconst (v := 0) dX4_isStory_53 (by decide) ?_
      first | exact v_reti dX4_isStory_54 (by first | rfl | exact rt_c | exact rt_z | exact Or.inr rfl) ⟨congrArg (fun z => some (Value.int z)) (b2c_t hq).symm, hr6⟩ | exact v_reti dX4_isStory_54 (by first | rfl | exact rt_c | exact rt_z | exact Or.inr rfl) ⟨congrArg (fun z => some (Value.int z)) (b2c_f hq).symm, hr6⟩ | exact v_reti dX4_isStory_54 (by first | rfl | exact rt_c | exact rt_z | exact Or.inr rfl) ⟨congrArg (fun z => some (Value.int z)) (b2c_f hq).symm, r6_rf h⟩
    · skip
      have hq : sto_ A C nC sN S h r w p f := ⟨by rw [e2, nI_clamp (by omega)]; exact hth, by rw [e2, e3, e4, e5]; simp (disch := omega) only [nI_clamp]; exact b46⟩
      refine v_iconst (v := 1) dX4_isStory_49 (by decide) ?_
      refine v_goto (tgt := 54) dX4_isStory_50 (by decide) ?_
      first | exact v_reti dX4_isStory_54 (by first | rfl | exact rt_c | exact rt_z | exact Or.inr rfl) ⟨congrArg (fun z => some (Value.int z)) (b2c_t hq).symm, hr6⟩ | exact v_reti dX4_isStory_54 (by first | rfl | exact rt_c | exact rt_z | exact Or.inr rfl) ⟨congrArg (fun z => some (Value.int z)) (b2c_f hq).symm, hr6⟩ | exact v_reti dX4_isStory_54 (by first | rfl | exact rt_c | exact rt_z | exact Or.inr rfl) ⟨congrArg (fun z => some (Value.int z)) (b2c_f hq).symm, r6_rf h⟩

