set_option maxRecDepth 100000
/-- a cut across a call that changes the heap -/
theorem v_cutH {G : Gv} {d : Nat} {own nm : String} {cc : ByteArray} {nL : Nat} {ret : Option FieldType} {mc ms : Nat} {Q : Option Value → AH → Prop} {pc : Nat} {l : List (Nat × Value)} {st : List Value} {h : AH} (pcJ : Nat) (φ : AH → Prop) (hj : ∀ hh, φ hh → Vv G d own nm cc nL ret mc ms Q pcJ l st hh) (hk : (∀ hh, φ hh → Vv G d own nm cc nL ret mc ms Q pcJ l st hh) → Vv G d own nm cc nL ret mc ms Q pc l st h) : Vv G d own nm cc nL ret mc ms Q pc l st h := hk hj
theorem b2i_b2c {P Q : Prop} [Decidable P] (e : P ↔ Q) : b2i P = b2c Q := by
  by_cases z : Q
  · rw [b2i_t (e.mpr z), b2c_t z]
  · rw [b2i_f (fun y => z (e.mp y)), b2c_f z]
theorem fp_MS {h h1 : AH} {sN nC : Nat} (a : fp_ h h1) (hS : MS_ h sN nC) : MS_ h1 sN nC := by
  refine ⟨fp_m a hS.1, ?_⟩
  rw [fp_I a 4 (by decide), fp_I a 48 (by decide), fp_33 a, fp_ct a]
  exact hS.2
theorem fp_WX {h h1 : AH} {nW : Nat} (f : fp_ h h1) (a : WX_ h nW) : WX_ h1 nW := by
  refine ⟨by rw [fp_I f 15 (by decide)]; exact a.1, a.2.1, ?_⟩
  rw [fp_A f 254 (by decide) (by decide), fp_A f 255 (by decide) (by decide), fp_A f 256 (by decide) (by decide), fp_A f 257 (by decide) (by decide)]
  exact a.2.2
theorem fiv_fp {A : Nat → Int32} {C : Nat → Nat → Int32} {nC sN : Nat} {S : Int32} {h h1 : AH} {w p f th g s e : Nat} (a : fp_ h h1) : fiv_ A C nC sN S h1 w p f th g s e = fiv_ A C nC sN S h w p f th g s e :=
  fiv_h (fp_A a 254 (by decide) (by decide)) (fp_A a 255 (by decide) (by decide)) (fp_A a 256 (by decide) (by decide)) (fp_A a 257 (by decide) (by decide))
theorem sto_fp {A : Nat → Int32} {C : Nat → Nat → Int32} {nC sN : Nat} {S : Int32} {h h1 : AH} {r w p f : Nat} (a : fp_ h h1) : sto_ A C nC sN S h1 r w p f ↔ sto_ A C nC sN S h r w p f := by
  unfold sto_
  rw [fiv_fp a, fp_A a 259 (by decide) (by decide)]
theorem tc_n {P : Nat → Nat → Prop} {sN : Nat} (h : ∀ w p, ¬ P w p) : ∀ w, tc_ P sN w = 0
  | 0 => rfl
  | w + 1 => by
    have z : ∀ n, gc_ (P w) n = 0 := fun n => by
      induction n with
      | zero => rfl
      | succ n ih => exact (cf_f (h w n)).trans ih
    rw [tc_s, tc_n h w, z]
def ny_ (h : AH) (sN nC r k w p : Nat) : Prop := sto_ (hp_I h 243) (ct_ h) nC sN 0 h r w p 0 ∧ sto_ (hp_I h 243) (ct_ h) nC sN (nI (2 ^ k)) h r w p 0
def nz_ (h : AH) (sN nC r k w p : Nat) : Prop := sto_ (hp_I h 243) (ct_ h) nC sN 0 h r w p 0 ∧ ¬ sto_ (hp_I h 243) (ct_ h) nC sN (nI (2 ^ k)) h r w p 0
noncomputable def nm_ (h : AH) (sN nC nW r k : Nat) : Nat := min (tc_ (ny_ h sN nC r k) sN nW) (tc_ (nz_ h sN nC r k) sN nW)
/-- the control that tells most, of those that cost little -/
noncomputable def nx_ (h : AH) (sN nC nW r : Nat) (cost : Int32) : Nat → Int32 × Int32
  | 0 => (-1, -1)
  | k + 1 => cf_ (ct_ h 5 k ≤ cost ∧ (nx_ h sN nC nW r cost k).2 < nI (nm_ h sN nC nW r k)) (nI k, nI (nm_ h sN nC nW r k)) (nx_ h sN nC nW r cost k)
theorem nx_s (h : AH) (sN nC nW r : Nat) (cost : Int32) (k : Nat) : nx_ h sN nC nW r cost (k + 1) = cf_ (ct_ h 5 k ≤ cost ∧ (nx_ h sN nC nW r cost k).2 < nI (nm_ h sN nC nW r k)) (nI k, nI (nm_ h sN nC nW r k)) (nx_ h sN nC nW r cost k) := rfl
noncomputable def sp_next (h : AH) (sN nC nW : Nat) (r cost : Int32) (hx : AH) : Int32 × AH :=
  (cf_ ((0 ≤ r ∧ r < hp_I h 241 42) ∧ hp_I h 259 (7 * r.toNatClampNeg + 1) = 0) (nx_ h sN nC nW r.toNatClampNeg cost nC).1 (-1), hx)
set_option maxHeartbeats 2000000 in
theorem c_X4_next {G : Gv} {h : AH} {sN nC : Nat} (hS : MS_ h sN nC) {nR nW : Nat} (hR : RP_ h nR sN) (hW : WX_ h nW) (r x : Int32) : Ctr G 8 yX4_next_2 cX4_next_2 11 (some .int) [.ref 241, .int r, .int x] h 0 0 (Pf h (sp_next h sN nC nW r x)) := by
  refine ctr_of (own := RX4) (nm := "next") (by decide) (Nat.le_of_ble_eq_true rfl) ?_
  have hm := hS.1
  have hS0 := MS_th hS
  have hs := hS.2.1
  have hv := hS.2.2.1
  have h3 := sv_s hv
  have hpt := fp_th h
  have hC8 := hS.2.2.2.2.1
  have hCh : hp_I h 241 48 = nI nC := hS.2.2.2.1
  have hR0 := RP_th hR
  have hR9 := hR.2.1
  have hW2 := hW.2.1
  have hlaid := sv_laid hv
  refine v_aload_n dX4_next_2_0 rfl rfl ?_
  refine v_iconst (v := 0) dX4_next_2_1 (by decide) ?_
  refine v_thr fX4_1 dX4_next_2_2 hm ?_
  have hm := MI_th hm
  refine v_aload_n dX4_next_2_5 rfl rfl ?_
  refine v_iload_n dX4_next_2_6 rfl rfl ?_
  refine v_pV mtX4_isOfThing q2081 q2083 qs100 rfl (by decide) dX4_next_2_7 (c_X4_isOfThing (nR := nR) hm hR.1 hR9 _) (mK_obj hm) (by decide) ?_
  refine v_if_ne (tgt := 15) dX4_next_2_10 (by decide) (fun b10 => ?_) (fun b10 => ?_)
  · skip
    rw [b2i_n0, th_49] at b10
    obtain ⟨rn, hrn, rfl⟩ := nI_rng b10.1 (by omega)
    have h0 := b10.2
    rw [nI_clamp (by omega)] at h0
    obtain ⟨-, ek, ⟨an, bn, hab, hbn, e4, e5⟩, -⟩ := hR.2.2 rn hrn
    obtain ⟨-, ⟨tn, htn, e2⟩, ⟨xn, hxn, e3⟩⟩ := ek.resolve_right (fun z => by rw [h0] at z; exact absurd z.1 (by decide))
    have eST : ∀ S w p, sto_ (hp_I h 243) (ct_ h) nC sN S h rn w p 0 ↔ (tn < nLaid (hp_I h 243) ∧ ¬ fiv_ (hp_I h 243) (ct_ h) nC sN S h w p 0 tn xn an bn = -1) := fun S w p => by
     unfold sto_
     rw [e2, e3, e4, e5]
     simp (disch := omega) only [nI_clamp]
    refine v_aload_n dX4_next_2_15 rfl rfl ?_
    refine v_aload_n dX4_next_2_16 rfl rfl ?_
    refine v_iload_n dX4_next_2_17 rfl rfl ?_
    refine v_iconst (v := nI 2) dX4_next_2_18 (by decide) ?_
    refine v_pV mtX4_tellsOf q2053 q2055 qs96 rfl (by decide) dX4_next_2_19 (c_X4_tellsOf hm ?_) (mK_obj hm) (by decide) ?_
    · omega
    rw [th_49, e2]
    refine v_pV mtX4_isThing q1851 q1853 qs64 rfl (by decide) dX4_next_2_22 (c_X4_isThing hm _) (mK_obj hm) (by decide) ?_
    rw [b2i_b2c (Q := tn < nLaid (hp_I h 243)) ⟨fun z => (nI_ltI (by omega) (by omega)).mp (by have := z.2; rw [th_33, hlaid.2] at this; exact this), fun z => ⟨nI_pos (by omega) |> Int32.not_lt.mp, by rw [th_33, hlaid.2]; exact (nI_ltI (by omega) (by omega)).mpr z⟩⟩]
    refine v_istore_n dX4_next_2_25 rfl (by decide) ?_
    refine v_cutH 59 (fun hh => fp_ (th_ h) hh ∧ (tn < nLaid (hp_I h 243) → ∀ w, w < nW → ∀ p, p < sN → hp_I hh 269 (8 * p + w) = b2c (¬ fiv_ (hp_I h 243) (ct_ h) nC sN 0 h w p 0 tn xn an bn = -1))) (fun hh hz59 => ?_) (fun hc59 => ?_)
    · skip
      obtain ⟨hhp, hfit⟩ := hz59
      have hhp0 : fp_ h hh := fp_tr hpt hhp
      have hm : MI hh := fp_m hhp hS0.1
      refine v_iconst (v := (-1)) dX4_next_2_59 (by decide) ?_
      refine v_istore dX4_next_2_60 (by decide) ?_
      refine v_iconst (v := (-1)) dX4_next_2_62 (by decide) ?_
      refine v_istore dX4_next_2_63 (by decide) ?_
      refine v_iconst (v := 0) dX4_next_2_65 (by decide) ?_
      refine v_istore dX4_next_2_66 (by decide) ?_
      refine v_loc2 (by repeat' (first | with_reducible exact lsub_n | with_reducible refine lsub_c ?_ ?_ | with_reducible refine lk_hit ?_ | with_reducible refine lk_miss (by decide) ?_ ?_ | exact rfl)) (v_lp2 (fun (k : Nat) (hc : AH) => nC - k) (fun (k : Nat) (hc : AH) => k ≤ nC ∧ fx_ hh hc) (fun (k : Nat) (hc : AH) => [(0, .ref 241), (1, .int (nI rn)), (2, .int x), (3, .int (b2c (tn < nLaid (hp_I h 243)))), (4, .int (nx_ h sN nC nW rn x k).1), (5, .int (nx_ h sN nC nW rn x k).2), (6, .int (nI k))]) (fun (k : Nat) (hc : AH) => hc) ?_ 0 _ ⟨Nat.zero_le _, fx_rf _⟩)
      intro k hc hI IH
      obtain ⟨hI1, hr⟩ := hI
      have hpc : fp_ h hc := fp_tr hhp0 (fp_fx hr)
      have hSc : MS_ hc sN nC := fp_MS hpc hS
      have hWc : WX_ hc nW := fp_WX hpc hW
      have hm : MI hc := hSc.1
      have eCc : hp_I hc 241 48 = nI nC := hSc.2.2.2.1
      have e58 : ∀ k, hp_I hc 268 k = ct_ h 5 k := fun k => by rw [fp_A hpc 268 (by decide) (by decide)]; rfl
      have e33c := fp_33 hpc
      have ectc := fp_ct hpc
      refine v_iload dX4_next_2_68 rfl ?_
      refine v_aload_n dX4_next_2_70 rfl rfl ?_
      refine v_getI fX4_122 dX4_next_2_71 (mK_obj hm) ?_
      rw [eCc]
      refine v_icmp_ge (tgt := 226) dX4_next_2_74 (by decide) (fun b74 => ?_) (fun b74 => ?_)
      · skip
        rw [nI_leI (by omega) (by omega)] at b74
        have hk : nC = k := by omega
        refine v_iload dX4_next_2_226 rfl ?_
        subst hk
        refine v_reti dX4_next_2_228 rfl (Pf_i hpc ?_)
        unfold sp_next
        rw [cf_t ⟨by rw [hR.1]; exact b10.1, b10.2⟩, nI_clamp (by omega)]
      · skip
        rw [nI_leI (by omega) (by omega)] at b74
        have hk : k < nC := by omega
        refine v_aload_n dX4_next_2_77 rfl rfl ?_
        refine v_getR fX4_100 dX4_next_2_78 (mK_obj hm) (mR_controlCost hm) ?_ fcA_I
        refine v_iload dX4_next_2_81 rfl ?_
        refine v_iald dX4_next_2_83 (mK_controlCost hm) rfl (by first | assumption | omega) ?_
        rw [e58]
        refine v_iload_n dX4_next_2_84 rfl rfl ?_
        refine v_icmp_le (tgt := 91) dX4_next_2_85 (by decide) (fun b85 => ?_) (fun b85 => ?_)
        · skip
          refine v_aload_n dX4_next_2_91 rfl rfl ?_
          refine v_iconst (v := 1) dX4_next_2_92 (by decide) ?_
          refine v_iload dX4_next_2_93 rfl ?_
          refine v_ishl dX4_next_2_95 ?_
          rw [sh_1 (by omega)]
          refine v_zV mtX4_lays q1855 q1857 qs65 rfl (by decide) dX4_next_2_96 (c_lays hSc _) (mK_obj hm) (by decide) (fun r96 h96 q96 z96 => ?_)
          obtain ⟨rfl, hL0⟩ := q96
          have hLd : LD_ (hp_I h 243) (ct_ h) nC sN (nI (2 ^ k)) h96 := by
           have z := LY_LD hSc hL0
           rw [e33c, ectc] at z
           exact z
          have hm : MI h96 := hLd.1
          have hfx2 := fx_fr hL0.1
          refine v_iconst (v := 0) dX4_next_2_99 (by decide) ?_
          refine v_istore dX4_next_2_100 (by decide) ?_
          refine v_iconst (v := 0) dX4_next_2_102 (by decide) ?_
          refine v_istore dX4_next_2_103 (by decide) ?_
          refine v_iconst (v := 0) dX4_next_2_105 (by decide) ?_
          refine v_istore dX4_next_2_106 (by decide) ?_
          refine v_loc2 (by repeat' (first | with_reducible exact lsub_n | with_reducible refine lsub_c ?_ ?_ | with_reducible refine lk_hit ?_ | with_reducible refine lk_miss (by decide) ?_ ?_ | exact rfl)) (v_lp2 (fun (w : Nat) (hd : AH) => nW - w) (fun (w : Nat) (hd : AH) => w ≤ nW ∧ r6_ h96 hd) (fun (w : Nat) (hd : AH) => [(0, .ref 241), (1, .int (nI rn)), (2, .int x), (3, .int (b2c (tn < nLaid (hp_I h 243)))), (4, .int (nx_ h sN nC nW rn x k).1), (5, .int (nx_ h sN nC nW rn x k).2), (6, .int (nI k)), (7, .int (nI (tc_ (ny_ h sN nC rn k) sN w))), (8, .int (nI (tc_ (nz_ h sN nC rn k) sN w))), (9, .int (nI w))]) (fun (w : Nat) (hd : AH) => hd) ?_ 0 _ ⟨Nat.zero_le _, r6_rf _⟩)
          intro w hd hI2 IH2
          obtain ⟨hJ1, hr2⟩ := hI2
          have hm : MI hd := r6_m hr2 hLd.1
          refine v_iload dX4_next_2_108 rfl ?_
          refine v_aload_n dX4_next_2_110 rfl rfl ?_
          refine v_getI fX4_297 dX4_next_2_111 (mK_obj hm) ?_
          rw [hr2.2.2.2.2.2 15 (by omega), hfx2.2.2.2.2.2 15 (by omega), hWc.1]
          refine v_icmp_ge (tgt := 186) dX4_next_2_114 (by decide) (fun b114 => ?_) (fun b114 => ?_)
          · skip
            rw [nI_leI (by omega) (by omega)] at b114
            have hk3 : nW = w := by omega
            subst hk3
            have hnr := fx_tr hr (fx_tr hfx2 (fx_r6 hr2))
            have htb : sN * nW ≤ 9 * 8 := Nat.mul_le_mul h3.2 hW2
            have ht1 := tc_le (ny_ h sN nC rn k) sN nW
            have ht2 := tc_le (nz_ h sN nC rn k) sN nW
            refine v_join 200 (fun z => z = nI (nm_ h sN nC nW rn k)) (fun z hz => ?_) (fun hj200 => ?_)
            · skip
              subst hz
              refine v_istore dX4_next_2_200 (by decide) ?_
              refine v_iload dX4_next_2_202 rfl ?_
              refine v_iload dX4_next_2_204 rfl ?_
              refine v_icmp_gt (tgt := 212) dX4_next_2_206 (by decide) (fun b206 => ?_) (fun b206 => ?_)
              · skip
                have hq : nx_ h sN nC nW rn x (k + 1) = (nI k, nI (nm_ h sN nC nW rn k)) := by rw [nx_s]; exact cf_t ⟨b85, b206⟩
                refine v_iload dX4_next_2_212 rfl ?_
                refine v_istore dX4_next_2_214 (by decide) ?_
                refine v_iload dX4_next_2_216 rfl ?_
                refine v_istore dX4_next_2_218 (by decide) ?_
                refine v_iinc dX4_next_2_220 rfl (by first | with_reducible exact nI_inc _ | exact rfl) (by decide) ?_
                refine v_goto (tgt := 68) dX4_next_2_223 (by decide) ?_
                refine v_loc2 (by repeat' (first | with_reducible exact lsub_n | with_reducible refine lsub_c ?_ ?_ | with_reducible refine lk_hit ?_ | with_reducible refine lk_miss (by decide) ?_ ?_ | (first | exact rfl | (rw [hq]; done) | (rw [hq]; exact rfl)))) (IH (k + 1) _ ⟨by omega, hnr⟩ (by omega))
              · skip
                have hq : nx_ h sN nC nW rn x (k + 1) = nx_ h sN nC nW rn x k := by rw [nx_s]; exact cf_f (fun z => b206 z.2)
                refine v_goto (tgt := 220) dX4_next_2_209 (by decide) ?_
                refine v_iinc dX4_next_2_220 rfl (by first | with_reducible exact nI_inc _ | exact rfl) (by decide) ?_
                refine v_goto (tgt := 68) dX4_next_2_223 (by decide) ?_
                refine v_loc2 (by repeat' (first | with_reducible exact lsub_n | with_reducible refine lsub_c ?_ ?_ | with_reducible refine lk_hit ?_ | with_reducible refine lk_miss (by decide) ?_ ?_ | (first | exact rfl | (rw [hq]; done) | (rw [hq]; exact rfl)))) (IH (k + 1) _ ⟨by omega, hnr⟩ (by omega))
            · skip
              refine v_iload dX4_next_2_186 rfl ?_
              refine v_iload dX4_next_2_188 rfl ?_
              refine v_icmp_ge (tgt := 198) dX4_next_2_190 (by decide) (fun b190 => ?_) (fun b190 => ?_)
              · skip
                rw [nI_leI (by omega) (by omega)] at b190
                have hmn : nI (tc_ (nz_ h sN nC rn k) sN nW) = nI (nm_ h sN nC nW rn k) := congrArg nI (by unfold nm_; omega)
                refine v_iload dX4_next_2_198 rfl ?_
                exact hj200 _ hmn
              · skip
                rw [nI_leI (by omega) (by omega)] at b190
                have hmn : nI (tc_ (ny_ h sN nC rn k) sN nW) = nI (nm_ h sN nC nW rn k) := congrArg nI (by unfold nm_; omega)
                refine v_iload dX4_next_2_193 rfl ?_
                refine v_goto (tgt := 200) dX4_next_2_195 (by decide) ?_
                exact hj200 _ hmn
          · skip
            rw [nI_leI (by omega) (by omega)] at b114
            have hk3 : w < nW := by omega
            refine v_iload_n dX4_next_2_117 rfl rfl ?_
            refine v_if_eq (tgt := 186) dX4_next_2_118 (by decide) (fun b118 => ?_) (fun b118 => ?_)
            · skip
              rw [b2c_0] at b118
              have eS9 : tc_ (ny_ h sN nC rn k) sN w = tc_ (ny_ h sN nC rn k) sN nW := by rw [tc_n (fun i q z => b118 ((eST _ _ _).mp z.1).1), tc_n (fun i q z => b118 ((eST _ _ _).mp z.1).1)]
              have eG9 : tc_ (nz_ h sN nC rn k) sN w = tc_ (nz_ h sN nC rn k) sN nW := by rw [tc_n (fun i q z => b118 ((eST _ _ _).mp z.1).1), tc_n (fun i q z => b118 ((eST _ _ _).mp z.1).1)]
              rw [eS9, eG9]
              have hnr := fx_tr hr (fx_tr hfx2 (fx_r6 hr2))
              have htb : sN * nW ≤ 9 * 8 := Nat.mul_le_mul h3.2 hW2
              have ht1 := tc_le (ny_ h sN nC rn k) sN nW
              have ht2 := tc_le (nz_ h sN nC rn k) sN nW
              refine v_join 200 (fun z => z = nI (nm_ h sN nC nW rn k)) (fun z hz => ?_) (fun hj200 => ?_)
              · skip
                subst hz
                refine v_istore dX4_next_2_200 (by decide) ?_
                refine v_iload dX4_next_2_202 rfl ?_
                refine v_iload dX4_next_2_204 rfl ?_
                refine v_icmp_gt (tgt := 212) dX4_next_2_206 (by decide) (fun b206 => ?_) (fun b206 => ?_)
                · skip
                  have hq : nx_ h sN nC nW rn x (k + 1) = (nI k, nI (nm_ h sN nC nW rn k)) := by rw [nx_s]; exact cf_t ⟨b85, b206⟩
                  refine v_iload dX4_next_2_212 rfl ?_
                  refine v_istore dX4_next_2_214 (by decide) ?_
                  refine v_iload dX4_next_2_216 rfl ?_
                  refine v_istore dX4_next_2_218 (by decide) ?_
                  refine v_iinc dX4_next_2_220 rfl (by first | with_reducible exact nI_inc _ | exact rfl) (by decide) ?_
                  refine v_goto (tgt := 68) dX4_next_2_223 (by decide) ?_
                  refine v_loc2 (by repeat' (first | with_reducible exact lsub_n | with_reducible refine lsub_c ?_ ?_ | with_reducible refine lk_hit ?_ | with_reducible refine lk_miss (by decide) ?_ ?_ | (first | exact rfl | (rw [hq]; done) | (rw [hq]; exact rfl)))) (IH (k + 1) _ ⟨by omega, hnr⟩ (by omega))
                · skip
                  have hq : nx_ h sN nC nW rn x (k + 1) = nx_ h sN nC nW rn x k := by rw [nx_s]; exact cf_f (fun z => b206 z.2)
                  refine v_goto (tgt := 220) dX4_next_2_209 (by decide) ?_
                  refine v_iinc dX4_next_2_220 rfl (by first | with_reducible exact nI_inc _ | exact rfl) (by decide) ?_
                  refine v_goto (tgt := 68) dX4_next_2_223 (by decide) ?_
                  refine v_loc2 (by repeat' (first | with_reducible exact lsub_n | with_reducible refine lsub_c ?_ ?_ | with_reducible refine lk_hit ?_ | with_reducible refine lk_miss (by decide) ?_ ?_ | (first | exact rfl | (rw [hq]; done) | (rw [hq]; exact rfl)))) (IH (k + 1) _ ⟨by omega, hnr⟩ (by omega))
              · skip
                refine v_iload dX4_next_2_186 rfl ?_
                refine v_iload dX4_next_2_188 rfl ?_
                refine v_icmp_ge (tgt := 198) dX4_next_2_190 (by decide) (fun b190 => ?_) (fun b190 => ?_)
                · skip
                  rw [nI_leI (by omega) (by omega)] at b190
                  have hmn : nI (tc_ (nz_ h sN nC rn k) sN nW) = nI (nm_ h sN nC nW rn k) := congrArg nI (by unfold nm_; omega)
                  refine v_iload dX4_next_2_198 rfl ?_
                  exact hj200 _ hmn
                · skip
                  rw [nI_leI (by omega) (by omega)] at b190
                  have hmn : nI (tc_ (ny_ h sN nC rn k) sN nW) = nI (nm_ h sN nC nW rn k) := congrArg nI (by unfold nm_; omega)
                  refine v_iload dX4_next_2_193 rfl ?_
                  refine v_goto (tgt := 200) dX4_next_2_195 (by decide) ?_
                  exact hj200 _ hmn
            · skip
              rw [b2c_n0] at b118
              refine v_iconst (v := 0) dX4_next_2_121 (by decide) ?_
              refine v_istore dX4_next_2_122 (by decide) ?_
              refine v_loc2 (by repeat' (first | with_reducible exact lsub_n | with_reducible refine lsub_c ?_ ?_ | with_reducible refine lk_hit ?_ | with_reducible refine lk_miss (by decide) ?_ ?_ | exact rfl)) (v_lp2 (fun (p : Nat) (hi : AH) => sN - p) (fun (p : Nat) (hi : AH) => p ≤ sN ∧ r6_ h96 hi) (fun (p : Nat) (hi : AH) => [(0, .ref 241), (1, .int (nI rn)), (2, .int x), (3, .int (b2c (tn < nLaid (hp_I h 243)))), (4, .int (nx_ h sN nC nW rn x k).1), (5, .int (nx_ h sN nC nW rn x k).2), (6, .int (nI k)), (7, .int (nI (tc_ (ny_ h sN nC rn k) sN w + gc_ (ny_ h sN nC rn k w) p))), (8, .int (nI (tc_ (nz_ h sN nC rn k) sN w + gc_ (nz_ h sN nC rn k w) p))), (9, .int (nI w)), (10, .int (nI p))]) (fun (p : Nat) (hi : AH) => hi) ?_ 0 _ ⟨Nat.zero_le _, hr2⟩)
              intro p hi hJ IHj
              obtain ⟨hJ2, hrr⟩ := hJ
              have hm : MI hi := r6_m hrr hLd.1
              have hpi : fp_ h hi := fp_tr hpc (fp_tr (fp_fx hfx2) (fp_r6 hrr))
              refine v_iload dX4_next_2_124 rfl ?_
              refine v_aload_n dX4_next_2_126 rfl rfl ?_
              refine v_getI fX4_24 dX4_next_2_127 (mK_obj hm) ?_
              rw [hrr.2.2.2.2.2 4 (by omega), hLd.2.1]
              refine v_icmp_ge (tgt := 180) dX4_next_2_130 (by decide) (fun b130 => ?_) (fun b130 => ?_)
              · skip
                rw [nI_leI (by omega) (by omega)] at b130
                have hk4 : sN = p := by omega
                subst hk4
                refine v_iinc dX4_next_2_180 rfl (by first | with_reducible exact nI_inc _ | exact rfl) (by decide) ?_
                refine v_goto (tgt := 108) dX4_next_2_183 (by decide) ?_
                refine v_loc2 (by repeat' (first | with_reducible exact lsub_n | with_reducible refine lsub_c ?_ ?_ | with_reducible refine lk_hit ?_ | with_reducible refine lk_miss (by decide) ?_ ?_ | exact rfl)) (IH2 (w + 1) _ ⟨by omega, hrr⟩ (by omega))
              · skip
                rw [nI_leI (by omega) (by omega)] at b130
                have hk4 : p < sN := by omega
                refine v_aload_n dX4_next_2_133 rfl rfl ?_
                refine v_getR fX4_103 dX4_next_2_134 (mK_obj hm) (mR_fitted hm) ?_ fcA_Z
                refine v_bipush (v := nI 8) dX4_next_2_137 (by decide) ?_
                refine v_iload dX4_next_2_139 rfl ?_
                refine v_imul dX4_next_2_141 ?_
                refine v_iload dX4_next_2_142 rfl ?_
                refine v_iadd dX4_next_2_144 ?_
                refine v_zald dX4_next_2_145 (mK_fitted hm) (ix_add (ix_mul rfl rfl) rfl) (by first | assumption | omega) ?_
                rw [hrr.2.2.2.2.1 269 (by decide), hfx2.2.2.2.2.1 269 (Or.inr (by decide)) (by decide), hr.2.2.2.2.1 269 (Or.inr (by decide)) (by decide), hfit b118 w hk3 p hk4]
                refine v_if_ne (tgt := 152) dX4_next_2_146 (by decide) (fun b146 => ?_) (fun b146 => ?_)
                · skip
                  rw [b2c_n0] at b146
                  refine v_aload_n dX4_next_2_152 rfl rfl ?_
                  refine v_iload_n dX4_next_2_153 rfl rfl ?_
                  refine v_iload dX4_next_2_154 rfl ?_
                  refine v_iload dX4_next_2_156 rfl ?_
                  refine v_iconst (v := nI 0) dX4_next_2_158 (by decide) ?_
                  refine v_zV mtX4_isStory q2089 q2091 qs102 rfl (by decide) dX4_next_2_159 (c_X4_isStory (r := rn) (w := w) (p := p) (f := 0) hv (r6_LD hLd hrr) (RP_fp hpi hR) hrn (by rw [fp_A hpi 259 (by decide) (by decide)]; exact h0) (fp_WX hpi hW) hk3 hk4 (by decide)) (mK_obj hm) (by decide) (fun r159 h159 q159 z159 => ?_)
                  obtain ⟨rfl, hr6⟩ := q159
                  have hr9 := r6_tr hrr hr6
                  rw [propext (sto_fp hpi)]
                  refine v_if_eq (tgt := 171) dX4_next_2_162 (by decide) (fun b162 => ?_) (fun b162 => ?_)
                  · skip
                    rw [b2c_0] at b162
                    have es : gc_ (ny_ h sN nC rn k w) (p + 1) = gc_ (ny_ h sN nC rn k w) p := cf_f (fun z => b162 z.2)
                    have eg : gc_ (nz_ h sN nC rn k w) (p + 1) = gc_ (nz_ h sN nC rn k w) p + 1 := cf_t ⟨(eST _ _ _).mpr ⟨b118, b146⟩, b162⟩
                    refine v_iinc dX4_next_2_171 rfl (by first | with_reducible exact nI_inc _ | exact rfl) (by decide) ?_
                    refine v_iinc dX4_next_2_174 rfl (by first | with_reducible exact nI_inc _ | exact rfl) (by decide) ?_
                    refine v_goto (tgt := 124) dX4_next_2_177 (by decide) ?_
                    refine v_loc2 (by repeat' (first | with_reducible exact lsub_n | with_reducible refine lsub_c ?_ ?_ | with_reducible refine lk_hit ?_ | with_reducible refine lk_miss (by decide) ?_ ?_ | (first | exact rfl | (rw [es]; done) | (rw [eg]; done) | (rw [es]; exact rfl) | (rw [eg]; exact rfl)))) (IHj (p + 1) _ ⟨by omega, hr9⟩ (by omega))
                  · skip
                    rw [b2c_n0] at b162
                    have es : gc_ (ny_ h sN nC rn k w) (p + 1) = gc_ (ny_ h sN nC rn k w) p + 1 := cf_t ⟨(eST _ _ _).mpr ⟨b118, b146⟩, b162⟩
                    have eg : gc_ (nz_ h sN nC rn k w) (p + 1) = gc_ (nz_ h sN nC rn k w) p := cf_f (fun z => z.2 b162)
                    refine v_iinc dX4_next_2_165 rfl (by first | with_reducible exact nI_inc _ | exact rfl) (by decide) ?_
                    refine v_goto (tgt := 174) dX4_next_2_168 (by decide) ?_
                    refine v_iinc dX4_next_2_174 rfl (by first | with_reducible exact nI_inc _ | exact rfl) (by decide) ?_
                    refine v_goto (tgt := 124) dX4_next_2_177 (by decide) ?_
                    refine v_loc2 (by repeat' (first | with_reducible exact lsub_n | with_reducible refine lsub_c ?_ ?_ | with_reducible refine lk_hit ?_ | with_reducible refine lk_miss (by decide) ?_ ?_ | (first | exact rfl | (rw [es]; done) | (rw [eg]; done) | (rw [es]; exact rfl) | (rw [eg]; exact rfl)))) (IHj (p + 1) _ ⟨by omega, hr9⟩ (by omega))
                · skip
                  rw [b2c_0, Classical.not_not] at b146
                  have es : gc_ (ny_ h sN nC rn k w) (p + 1) = gc_ (ny_ h sN nC rn k w) p := cf_f (fun z => ((eST _ _ _).mp z.1).2 b146)
                  have eg : gc_ (nz_ h sN nC rn k w) (p + 1) = gc_ (nz_ h sN nC rn k w) p := cf_f (fun z => ((eST _ _ _).mp z.1).2 b146)
                  have hr9 := hrr
                  refine v_goto (tgt := 174) dX4_next_2_149 (by decide) ?_
                  refine v_iinc dX4_next_2_174 rfl (by first | with_reducible exact nI_inc _ | exact rfl) (by decide) ?_
                  refine v_goto (tgt := 124) dX4_next_2_177 (by decide) ?_
                  refine v_loc2 (by repeat' (first | with_reducible exact lsub_n | with_reducible refine lsub_c ?_ ?_ | with_reducible refine lk_hit ?_ | with_reducible refine lk_miss (by decide) ?_ ?_ | (first | exact rfl | (rw [es]; done) | (rw [eg]; done) | (rw [es]; exact rfl) | (rw [eg]; exact rfl)))) (IHj (p + 1) _ ⟨by omega, hr9⟩ (by omega))
        · skip
          have hq : nx_ h sN nC nW rn x (k + 1) = nx_ h sN nC nW rn x k := by rw [nx_s]; exact cf_f (fun z => b85 z.1)
          have hnr := hr
          refine v_goto (tgt := 220) dX4_next_2_88 (by decide) ?_
          refine v_iinc dX4_next_2_220 rfl (by first | with_reducible exact nI_inc _ | exact rfl) (by decide) ?_
          refine v_goto (tgt := 68) dX4_next_2_223 (by decide) ?_
          refine v_loc2 (by repeat' (first | with_reducible exact lsub_n | with_reducible refine lsub_c ?_ ?_ | with_reducible refine lk_hit ?_ | with_reducible refine lk_miss (by decide) ?_ ?_ | (first | exact rfl | (rw [hq]; done) | (rw [hq]; exact rfl)))) (IH (k + 1) _ ⟨by omega, hnr⟩ (by omega))
    · skip
      refine v_iload_n dX4_next_2_26 rfl rfl ?_
      refine v_if_eq (tgt := 59) dX4_next_2_27 (by decide) (fun b27 => ?_) (fun b27 => ?_)
      · skip
        rw [b2c_0] at b27
        first | exact hc59 _ ⟨fp_rf _, fun z => absurd z b27⟩ | exact hc59 _ ⟨fp_tr (fp_fx hfx1) (fp_fz hfz1), fun _ => hfit⟩
      · skip
        rw [b2c_n0] at b27
        refine v_aload_n dX4_next_2_30 rfl rfl ?_
        refine v_iconst (v := nI 0) dX4_next_2_31 (by decide) ?_
        refine v_aload_n dX4_next_2_32 rfl rfl ?_
        refine v_iload_n dX4_next_2_33 rfl rfl ?_
        refine v_iconst (v := nI 2) dX4_next_2_34 (by decide) ?_
        refine v_pV mtX4_tellsOf q2053 q2055 qs96 rfl (by decide) dX4_next_2_35 (c_X4_tellsOf hm ?_) (mK_obj hm) (by decide) ?_
        · omega
        rw [th_49, e2]
        refine v_aload_n dX4_next_2_38 rfl rfl ?_
        refine v_iload_n dX4_next_2_39 rfl rfl ?_
        refine v_iconst (v := nI 3) dX4_next_2_40 (by decide) ?_
        refine v_pV mtX4_tellsOf q2053 q2055 qs96 rfl (by decide) dX4_next_2_41 (c_X4_tellsOf hm ?_) (mK_obj hm) (by decide) ?_
        · omega
        rw [th_49, e3]
        refine v_aload_n dX4_next_2_44 rfl rfl ?_
        refine v_iload_n dX4_next_2_45 rfl rfl ?_
        refine v_iconst (v := nI 4) dX4_next_2_46 (by decide) ?_
        refine v_pV mtX4_tellsOf q2053 q2055 qs96 rfl (by decide) dX4_next_2_47 (c_X4_tellsOf hm ?_) (mK_obj hm) (by decide) ?_
        · omega
        rw [th_49, e4]
        refine v_aload_n dX4_next_2_50 rfl rfl ?_
        refine v_iload_n dX4_next_2_51 rfl rfl ?_
        refine v_iconst (v := nI 5) dX4_next_2_52 (by decide) ?_
        refine v_pV mtX4_tellsOf q2053 q2055 qs96 rfl (by decide) dX4_next_2_53 (c_X4_tellsOf hm ?_) (mK_obj hm) (by decide) ?_
        · omega
        rw [th_49, e5]
        refine v_zV mtX4_fitsAll q2174 q2176 qs114 rfl (by decide) dX4_next_2_56 (c_X4_fitsAll (th := tn) (g := xn) (s := an) (e := bn) hS0 (WX_th hW) _ (by rw [th_33]; exact b27) (by omega) (by omega) (by omega)) (mK_obj hm) (by decide) (fun r56 h56 q56 z56 => ?_)
        obtain ⟨rfl, ⟨h2, hfx1, hfz1⟩, hfit⟩ := q56
        simp only [th_33, th_ct, fiv_th] at hfit
        first | exact hc59 _ ⟨fp_rf _, fun z => absurd z b27⟩ | exact hc59 _ ⟨fp_tr (fp_fx hfx1) (fp_fz hfz1), fun _ => hfit⟩
  · skip
    rw [b2i_0, th_49] at b10
    refine v_iconst (v := (-1)) dX4_next_2_13 (by decide) ?_
    exact v_reti dX4_next_2_14 rfl (Pf_i hpt (by unfold sp_next; rw [cf_f (by rw [hR.1]; exact b10)]))

