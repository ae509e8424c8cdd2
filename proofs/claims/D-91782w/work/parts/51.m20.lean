set_option maxRecDepth 100000
theorem sc_put {P R : Nat → Prop} {n k : Nat} (hk : k < n) (e : ∀ q, q < n → (R q ↔ (P q ∨ q = k))) : sc_ P n ||| 2 ^ k = sc_ R n := by
  refine Nat.eq_of_testBit_eq fun q => ?_
  rw [Bool.eq_iff_iff, Nat.testBit_or, Bool.or_eq_true, sc_bit, sc_bit, Nat.testBit_two_pow, decide_eq_true_eq]
  constructor
  · rintro (⟨a, b⟩ | a)
    · exact ⟨a, (e q a).mpr (Or.inl b)⟩
    · subst a; exact ⟨hk, (e k hk).mpr (Or.inr rfl)⟩
  · rintro ⟨a, b⟩
    rcases (e q a).mp b with z | z
    · exact Or.inl ⟨a, z⟩
    · exact Or.inr z.symm
theorem sc_cg {P R : Nat → Prop} {n : Nat} (e : ∀ q, q < n → (P q ↔ R q)) : sc_ P n = sc_ R n := by
  refine Nat.eq_of_testBit_eq fun q => ?_
  rw [Bool.eq_iff_iff, sc_bit, sc_bit]
  exact ⟨fun z => ⟨z.1, (e q z.1).mp z.2⟩, fun z => ⟨z.1, (e q z.1).mpr z.2⟩⟩
/-- counted over ways and persons -/
noncomputable def tc_ (P : Nat → Nat → Prop) (sN : Nat) : Nat → Nat
  | 0 => 0
  | w + 1 => tc_ P sN w + gc_ (P w) sN
theorem tc_s (P : Nat → Nat → Prop) (sN w : Nat) : tc_ P sN (w + 1) = tc_ P sN w + gc_ (P w) sN := rfl
theorem tc_le (P : Nat → Nat → Prop) (sN : Nat) : ∀ w, tc_ P sN w ≤ sN * w
  | 0 => Nat.le_refl _
  | w + 1 => by
    have := tc_le P sN w
    have := gc_le (P w) sN
    rw [tc_s, Nat.mul_succ]
    omega
theorem stw_e {A : Nat → Int32} {C : Nat → Nat → Int32} {nC sN : Nat} {S b : Int32} {h h1 : AH} {r w p : Nat} (e9 : hp_I h1 259 = hp_I h 259) (e4 : hp_I h1 254 = hp_I h 254) (e5 : hp_I h1 255 = hp_I h 255) (e6 : hp_I h1 256 = hp_I h 256) (e7 : hp_I h1 257 = hp_I h 257) : stw_ A C nC sN S h1 r w p b ↔ stw_ A C nC sN S h r w p b := by
  unfold stw_ sto_
  simp only [e9, fiv_h e4 e5 e6 e7]
theorem stw_fx {A : Nat → Int32} {C : Nat → Nat → Int32} {nC sN : Nat} {S b : Int32} {h h1 : AH} {r w p : Nat} (a : fx_ (th_ h) h1) : stw_ A C nC sN S h1 r w p b ↔ stw_ A C nC sN S h r w p b :=
  stw_e ((a.2.2.2.2.1 259 (Or.inr (by decide)) (by decide)).trans th_49) ((a.2.2.2.2.1 254 (Or.inr (by decide)) (by decide)).trans (th_A (by decide))) ((a.2.2.2.2.1 255 (Or.inr (by decide)) (by decide)).trans (th_A (by decide))) ((a.2.2.2.2.1 256 (Or.inr (by decide)) (by decide)).trans (th_A (by decide))) ((a.2.2.2.2.1 257 (Or.inr (by decide)) (by decide)).trans (th_A (by decide)))
noncomputable def sp_stories (h : AH) (sN nC nW : Nat) (r b x : Int32) (hx : AH) : Int32 × AH :=
  (cf_ (((0 ≤ r ∧ r < hp_I h 241 42) ∧ hp_I h 259 (7 * r.toNatClampNeg + 1) = 0) ∧ (0 ≤ x ∧ x ≤ 2)) (cf_ (x = 0) (nI (tc_ (fun w p => stw_ (hp_I h 243) (ct_ h) nC sN 0 h r.toNatClampNeg w p b) sN nW))
    (cf_ (x = 1) (nI (sc_ (fun q => ∃ i, i < nW ∧ stw_ (hp_I h 243) (ct_ h) nC sN 0 h r.toNatClampNeg i q b) sN)) (nI (sc_ (fun i => ∃ q, q < sN ∧ stw_ (hp_I h 243) (ct_ h) nC sN 0 h r.toNatClampNeg i q b) nW)))) (-1), hx)
set_option maxHeartbeats 2000000 in
theorem c_X4_stories {G : Gv} {h : AH} {sN nC : Nat} (hS : MS_ h sN nC) {nR nW : Nat} (hR : RP_ h nR sN) (hW : WX_ h nW) (r b x : Int32) : Ctr G 9 yX4_stories cX4_stories 9 (some .int) [.ref 241, .int r, .int b, .int x] h 0 0 (Pf h (sp_stories h sN nC nW r b x)) := by
  refine ctr_of (own := RX4) (nm := "stories") (by decide) (Nat.le_of_ble_eq_true rfl) ?_
  have hm := hS.1
  have hS0 := MS_th hS
  have hs := hS.2.1
  have hv := hS.2.2.1
  have h3 := sv_s hv
  have hpt := fp_th h
  have hR0 := RP_th hR
  have hR9 := hR.2.1
  have hW2 := hW.2.1
  refine v_aload_n dX4_stories_0 rfl rfl ?_
  refine v_iconst (v := 0) dX4_stories_1 (by decide) ?_
  refine v_thr fX4_1 dX4_stories_2 hm ?_
  have hm := MI_th hm
  refine v_cut 27 (((0 ≤ r ∧ r < hp_I h 241 42) ∧ hp_I h 259 (7 * r.toNatClampNeg + 1) = 0) ∧ (0 ≤ x ∧ x ≤ 2)) (fun hz27 => ?_) (fun hc27 => ?_)
  · skip
    have hz9 := hz27
    rw [hR.1] at hz9
    obtain ⟨rn, hrn, rfl⟩ := nI_rng hz9.1.1 (by omega)
    have h0 := hz9.1.2
    rw [nI_clamp (by omega)] at h0
    refine v_aload_n dX4_stories_27 rfl rfl ?_
    refine v_iconst (v := nI 0) dX4_stories_28 (by decide) ?_
    refine v_zV mtX4_lays q1855 q1857 qs65 rfl (by decide) dX4_stories_29 (c_lays hS0 _) (mK_obj hm) (by decide) (fun r29 h29 q29 z29 => ?_)
    obtain ⟨rfl, hL⟩ := q29
    have hL : LY_ (th_ h) nC sN 0 h29 := hL
    have hm : MI h29 := (MS_fr hS0 hL.1).1
    have hfx := fx_fr hL.1
    have hLd : LD_ (hp_I h 243) (ct_ h) nC sN 0 h29 := by
     have z := LY_LD hS0 hL
     rw [th_33, th_ct] at z
     exact z
    refine v_iconst (v := 0) dX4_stories_32 (by decide) ?_
    refine v_istore dX4_stories_33 (by decide) ?_
    refine v_iconst (v := 0) dX4_stories_35 (by decide) ?_
    refine v_istore dX4_stories_36 (by decide) ?_
    refine v_iconst (v := 0) dX4_stories_38 (by decide) ?_
    refine v_istore dX4_stories_39 (by decide) ?_
    refine v_iconst (v := 0) dX4_stories_41 (by decide) ?_
    refine v_istore dX4_stories_42 (by decide) ?_
    refine v_loc2 (by repeat' (first | with_reducible exact lsub_n | with_reducible refine lsub_c ?_ ?_ | with_reducible refine lk_hit ?_ | with_reducible refine lk_miss (by decide) ?_ ?_ | (first | exact rfl | exact congrArg (fun z => Value.int (nI z)) (sc_n (fun q _ z => z.elim (fun ⟨i, y, _⟩ => absurd y (Nat.not_lt_zero i)) (fun y => absurd y.1 (Nat.not_lt_zero q)))).symm | exact congrArg (fun z => Value.int (nI z)) (sc_n (fun i _ z => z.elim (fun y => absurd y.1 (Nat.not_lt_zero i)) (fun ⟨_, q, y, _⟩ => absurd y (Nat.not_lt_zero q)))).symm))) (v_lp2 (fun (w : Nat) (hh : AH) => nW - w) (fun (w : Nat) (hh : AH) => w ≤ nW ∧ r6_ h29 hh) (fun (w : Nat) (hh : AH) => [(0, .ref 241), (1, .int (nI rn)), (2, .int b), (3, .int x), (4, .int (nI (tc_ (fun w p => stw_ (hp_I h 243) (ct_ h) nC sN 0 h rn w p b) sN w))), (5, .int (nI (sc_ (fun q => (∃ i, i < w ∧ stw_ (hp_I h 243) (ct_ h) nC sN 0 h rn i q b) ∨ (q < 0 ∧ stw_ (hp_I h 243) (ct_ h) nC sN 0 h rn w q b)) sN))), (6, .int (nI (sc_ (fun i => (i < w ∧ ∃ q, q < sN ∧ stw_ (hp_I h 243) (ct_ h) nC sN 0 h rn i q b) ∨ (i = w ∧ ∃ q, q < 0 ∧ stw_ (hp_I h 243) (ct_ h) nC sN 0 h rn w q b)) nW))), (7, .int (nI w))]) (fun (w : Nat) (hh : AH) => hh) ?_ 0 _ ⟨Nat.zero_le _, r6_rf _⟩)
    intro w hh hI IH
    obtain ⟨hI1, hr⟩ := hI
    have hm : MI hh := r6_m hr hLd.1
    refine v_iload dX4_stories_44 rfl ?_
    refine v_aload_n dX4_stories_46 rfl rfl ?_
    refine v_getI fX4_297 dX4_stories_47 (mK_obj hm) ?_
    rw [hr.2.2.2.2.2 15 (by omega), hfx.2.2.2.2.2 15 (by omega), show hp_I (th_ h) 241 15 = nI nW from hW.1]
    refine v_icmp_ge (tgt := 114) dX4_stories_50 (by decide) (fun b50 => ?_) (fun b50 => ?_)
    · skip
      rw [nI_leI (by omega) (by omega)] at b50
      have hk : nW = w := by omega
      refine v_iload_n dX4_stories_114 rfl rfl ?_
      refine v_if_ne (tgt := 123) dX4_stories_115 (by decide) (fun b115 => ?_) (fun b115 => ?_)
      · skip
        refine v_iload_n dX4_stories_123 rfl rfl ?_
        refine v_iconst (v := nI 1) dX4_stories_124 (by decide) ?_
        refine v_icmp_ne (tgt := 133) dX4_stories_125 (by decide) (fun b125 => ?_) (fun b125 => ?_)
        · skip
          refine v_iload dX4_stories_133 rfl ?_
          subst hk
          refine v_reti dX4_stories_135 rfl (Pf_i (fp_tr hpt (fp_tr (fp_fx hfx) (fp_r6 hr))) ?_)
          unfold sp_stories
          rw [cf_t hz27, nI_clamp (by omega)]
          refine congrArg (fun z => (z, _)) ?_
          (try rw [show (nI 1 : Int32) = 1 from rfl] at b125)
          first | (rw [cf_t b115]) | (rw [cf_f b115, cf_t b125]; exact congrArg nI (sc_cg fun q hq => ⟨Or.inl, fun z => z.elim id (fun y => absurd y.1 (Nat.not_lt_zero q))⟩)) | (rw [cf_f b115, cf_f b125]; exact congrArg nI (sc_cg fun i hi => ⟨fun z => Or.inl ⟨hi, z⟩, fun z => z.elim (fun y => y.2) (fun ⟨_, q, y, _⟩ => absurd y (Nat.not_lt_zero q))⟩))
        · skip
          refine v_iload dX4_stories_128 rfl ?_
          refine v_goto (tgt := 135) dX4_stories_130 (by decide) ?_
          subst hk
          refine v_reti dX4_stories_135 rfl (Pf_i (fp_tr hpt (fp_tr (fp_fx hfx) (fp_r6 hr))) ?_)
          unfold sp_stories
          rw [cf_t hz27, nI_clamp (by omega)]
          refine congrArg (fun z => (z, _)) ?_
          (try rw [show (nI 1 : Int32) = 1 from rfl] at b125)
          first | (rw [cf_t b115]) | (rw [cf_f b115, cf_t b125]; exact congrArg nI (sc_cg fun q hq => ⟨Or.inl, fun z => z.elim id (fun y => absurd y.1 (Nat.not_lt_zero q))⟩)) | (rw [cf_f b115, cf_f b125]; exact congrArg nI (sc_cg fun i hi => ⟨fun z => Or.inl ⟨hi, z⟩, fun z => z.elim (fun y => y.2) (fun ⟨_, q, y, _⟩ => absurd y (Nat.not_lt_zero q))⟩))
      · skip
        refine v_iload dX4_stories_118 rfl ?_
        refine v_goto (tgt := 135) dX4_stories_120 (by decide) ?_
        subst hk
        refine v_reti dX4_stories_135 rfl (Pf_i (fp_tr hpt (fp_tr (fp_fx hfx) (fp_r6 hr))) ?_)
        unfold sp_stories
        rw [cf_t hz27, nI_clamp (by omega)]
        refine congrArg (fun z => (z, _)) ?_
        (try rw [show (nI 1 : Int32) = 1 from rfl] at b125)
        first | (rw [cf_t b115]) | (rw [cf_f b115, cf_t b125]; exact congrArg nI (sc_cg fun q hq => ⟨Or.inl, fun z => z.elim id (fun y => absurd y.1 (Nat.not_lt_zero q))⟩)) | (rw [cf_f b115, cf_f b125]; exact congrArg nI (sc_cg fun i hi => ⟨fun z => Or.inl ⟨hi, z⟩, fun z => z.elim (fun y => y.2) (fun ⟨_, q, y, _⟩ => absurd y (Nat.not_lt_zero q))⟩))
    · skip
      rw [nI_leI (by omega) (by omega)] at b50
      have hk : w < nW := by omega
      refine v_iconst (v := 0) dX4_stories_53 (by decide) ?_
      refine v_istore dX4_stories_54 (by decide) ?_
      refine v_loc2 (by repeat' (first | with_reducible exact lsub_n | with_reducible refine lsub_c ?_ ?_ | with_reducible refine lk_hit ?_ | with_reducible refine lk_miss (by decide) ?_ ?_ | exact rfl)) (v_lp2 (fun (p : Nat) (hi : AH) => sN - p) (fun (p : Nat) (hi : AH) => p ≤ sN ∧ r6_ h29 hi) (fun (p : Nat) (hi : AH) => [(0, .ref 241), (1, .int (nI rn)), (2, .int b), (3, .int x), (4, .int (nI (tc_ (fun w p => stw_ (hp_I h 243) (ct_ h) nC sN 0 h rn w p b) sN w + gc_ (fun p => stw_ (hp_I h 243) (ct_ h) nC sN 0 h rn w p b) p))), (5, .int (nI (sc_ (fun q => (∃ i, i < w ∧ stw_ (hp_I h 243) (ct_ h) nC sN 0 h rn i q b) ∨ (q < p ∧ stw_ (hp_I h 243) (ct_ h) nC sN 0 h rn w q b)) sN))), (6, .int (nI (sc_ (fun i => (i < w ∧ ∃ q, q < sN ∧ stw_ (hp_I h 243) (ct_ h) nC sN 0 h rn i q b) ∨ (i = w ∧ ∃ q, q < p ∧ stw_ (hp_I h 243) (ct_ h) nC sN 0 h rn w q b)) nW))), (7, .int (nI w)), (8, .int (nI p))]) (fun (p : Nat) (hi : AH) => hi) ?_ 0 _ ⟨Nat.zero_le _, hr⟩)
      intro p hi hJ IHj
      obtain ⟨hJ1, hrr⟩ := hJ
      have hm : MI hi := r6_m hrr hLd.1
      have htc := tc_le (fun w p => stw_ (hp_I h 243) (ct_ h) nC sN 0 h rn w p b) sN w
      have hgc := gc_le (fun p => stw_ (hp_I h 243) (ct_ h) nC sN 0 h rn w p b) p
      refine v_iload dX4_stories_56 rfl ?_
      refine v_aload_n dX4_stories_58 rfl rfl ?_
      refine v_getI fX4_24 dX4_stories_59 (mK_obj hm) ?_
      rw [hrr.2.2.2.2.2 4 (by omega), hLd.2.1]
      refine v_icmp_ge (tgt := 108) dX4_stories_62 (by decide) (fun b62 => ?_) (fun b62 => ?_)
      · skip
        rw [nI_leI (by omega) (by omega)] at b62
        have hk2 : sN = p := by omega
        subst hk2
        refine v_iinc dX4_stories_108 rfl (by first | with_reducible exact nI_inc _ | exact rfl) (by decide) ?_
        refine v_goto (tgt := 44) dX4_stories_111 (by decide) ?_
        have eq1 : tc_ (fun w p => stw_ (hp_I h 243) (ct_ h) nC sN 0 h rn w p b) sN w + gc_ (fun p => stw_ (hp_I h 243) (ct_ h) nC sN 0 h rn w p b) sN = tc_ (fun w p => stw_ (hp_I h 243) (ct_ h) nC sN 0 h rn w p b) sN (w + 1) := rfl
        have eq2 : sc_ (fun q => (∃ i, i < w ∧ stw_ (hp_I h 243) (ct_ h) nC sN 0 h rn i q b) ∨ (q < sN ∧ stw_ (hp_I h 243) (ct_ h) nC sN 0 h rn w q b)) sN = sc_ (fun q => (∃ i, i < (w + 1) ∧ stw_ (hp_I h 243) (ct_ h) nC sN 0 h rn i q b) ∨ (q < 0 ∧ stw_ (hp_I h 243) (ct_ h) nC sN 0 h rn (w + 1) q b)) sN := sc_cg fun q hq => ⟨fun z => z.elim (fun ⟨i, y1, y2⟩ => Or.inl ⟨i, by omega, y2⟩) (fun y => Or.inl ⟨w, by omega, y.2⟩), fun z => z.elim (fun ⟨i, y1, y2⟩ => (Nat.lt_succ_iff_lt_or_eq.mp y1).elim (fun u => Or.inl ⟨i, u, y2⟩) (fun u => Or.inr ⟨hq, by rw [← u]; exact y2⟩)) (fun y => absurd y.1 (Nat.not_lt_zero q))⟩
        have eq3 : sc_ (fun i => (i < w ∧ ∃ q, q < sN ∧ stw_ (hp_I h 243) (ct_ h) nC sN 0 h rn i q b) ∨ (i = w ∧ ∃ q, q < sN ∧ stw_ (hp_I h 243) (ct_ h) nC sN 0 h rn w q b)) nW = sc_ (fun i => (i < (w + 1) ∧ ∃ q, q < sN ∧ stw_ (hp_I h 243) (ct_ h) nC sN 0 h rn i q b) ∨ (i = (w + 1) ∧ ∃ q, q < 0 ∧ stw_ (hp_I h 243) (ct_ h) nC sN 0 h rn (w + 1) q b)) nW := sc_cg fun i hi => ⟨fun z => z.elim (fun y => Or.inl ⟨by omega, y.2⟩) (fun ⟨y1, y2⟩ => Or.inl ⟨by omega, by rw [y1]; exact y2⟩), fun z => z.elim (fun ⟨y1, y2⟩ => (Nat.lt_succ_iff_lt_or_eq.mp y1).elim (fun u => Or.inl ⟨u, y2⟩) (fun u => Or.inr ⟨u, by rw [← u]; exact y2⟩)) (fun ⟨_, q, y, _⟩ => absurd y (Nat.not_lt_zero q))⟩
        refine v_loc2 (by repeat' (first | with_reducible exact lsub_n | with_reducible refine lsub_c ?_ ?_ | with_reducible refine lk_hit ?_ | with_reducible refine lk_miss (by decide) ?_ ?_ | (first | exact rfl | exact congrArg (fun z => Value.int (nI z)) eq1 | exact congrArg (fun z => Value.int (nI z)) eq2 | exact congrArg (fun z => Value.int (nI z)) eq3 | exact congrArg (fun z => some (Value.int (nI z))) eq1 | exact congrArg (fun z => some (Value.int (nI z))) eq2 | exact congrArg (fun z => some (Value.int (nI z))) eq3))) (IH (w + 1) _ ⟨by omega, hrr⟩ (by omega))
      · skip
        rw [nI_leI (by omega) (by omega)] at b62
        have hk2 : p < sN := by omega
        have hfp : fx_ (th_ h) hi := fx_tr hfx (fx_r6 hrr)
        refine v_aload_n dX4_stories_65 rfl rfl ?_
        refine v_iload_n dX4_stories_66 rfl rfl ?_
        refine v_iload dX4_stories_67 rfl ?_
        refine v_iload dX4_stories_69 rfl ?_
        refine v_iload_n dX4_stories_71 rfl rfl ?_
        refine v_zV mtX4_isStoryWith q2085 q2087 qs101 rfl (by decide) dX4_stories_72 (c_X4_isStoryWith (r := rn) (w := w) (p := p) hv (r6_LD hLd hrr) (fx_RP hfp hR0) hrn (by rw [hfp.2.2.2.2.1 259 (Or.inr (by decide)) (by decide), th_49]; exact h0) (fx_WX (WX_th hW) hfp) hk hk2 _) (mK_obj hm) (by decide) (fun r72 h72 q72 z72 => ?_)
        obtain ⟨rfl, hr6⟩ := q72
        rw [propext (stw_fx hfp)]
        have hr9 := r6_tr hrr hr6
        refine v_if_ne (tgt := 81) dX4_stories_75 (by decide) (fun b75 => ?_) (fun b75 => ?_)
        · skip
          rw [b2c_n0] at b75
          have eg : gc_ (fun p => stw_ (hp_I h 243) (ct_ h) nC sN 0 h rn w p b) (p + 1) = gc_ (fun p => stw_ (hp_I h 243) (ct_ h) nC sN 0 h rn w p b) p + 1 := cf_t b75
          have ep : sc_ (fun q => (∃ i, i < w ∧ stw_ (hp_I h 243) (ct_ h) nC sN 0 h rn i q b) ∨ (q < p ∧ stw_ (hp_I h 243) (ct_ h) nC sN 0 h rn w q b)) sN ||| 2 ^ p = sc_ (fun q => (∃ i, i < w ∧ stw_ (hp_I h 243) (ct_ h) nC sN 0 h rn i q b) ∨ (q < (p + 1) ∧ stw_ (hp_I h 243) (ct_ h) nC sN 0 h rn w q b)) sN := sc_put hk2 fun q hq => ⟨fun z => z.elim (fun y => Or.inl (Or.inl y)) (fun y => (Nat.lt_succ_iff_lt_or_eq.mp y.1).elim (fun u => Or.inl (Or.inr ⟨u, y.2⟩)) Or.inr), fun z => z.elim (fun y => y.elim Or.inl (fun u => Or.inr ⟨by omega, u.2⟩)) (fun u => Or.inr ⟨by omega, by rw [u]; exact b75⟩)⟩
          have ew : sc_ (fun i => (i < w ∧ ∃ q, q < sN ∧ stw_ (hp_I h 243) (ct_ h) nC sN 0 h rn i q b) ∨ (i = w ∧ ∃ q, q < p ∧ stw_ (hp_I h 243) (ct_ h) nC sN 0 h rn w q b)) nW ||| 2 ^ w = sc_ (fun i => (i < w ∧ ∃ q, q < sN ∧ stw_ (hp_I h 243) (ct_ h) nC sN 0 h rn i q b) ∨ (i = w ∧ ∃ q, q < (p + 1) ∧ stw_ (hp_I h 243) (ct_ h) nC sN 0 h rn w q b)) nW := sc_put hk fun q hq => ⟨fun z => z.elim (fun y => Or.inl (Or.inl y)) (fun y => Or.inr y.1), fun z => z.elim (fun y => y.elim Or.inl (fun ⟨y1, q2, y2, y3⟩ => Or.inr ⟨y1, q2, by omega, y3⟩)) (fun u => Or.inr ⟨u, p, by omega, b75⟩)⟩
          refine v_iinc dX4_stories_81 rfl (by first | with_reducible exact nI_inc _ | exact rfl) (by decide) ?_
          refine v_iload dX4_stories_84 rfl ?_
          refine v_iconst (v := 1) dX4_stories_86 (by decide) ?_
          refine v_iload dX4_stories_87 rfl ?_
          refine v_ishl dX4_stories_89 ?_
          refine v_ior dX4_stories_90 ?_
          rw [or_sh (by omega)]
          refine v_istore dX4_stories_91 (by decide) ?_
          refine v_iload dX4_stories_93 rfl ?_
          refine v_iconst (v := 1) dX4_stories_95 (by decide) ?_
          refine v_iload dX4_stories_96 rfl ?_
          refine v_ishl dX4_stories_98 ?_
          refine v_ior dX4_stories_99 ?_
          rw [or_sh (by omega)]
          refine v_istore dX4_stories_100 (by decide) ?_
          refine v_iinc dX4_stories_102 rfl (by first | with_reducible exact nI_inc _ | exact rfl) (by decide) ?_
          refine v_goto (tgt := 56) dX4_stories_105 (by decide) ?_
          refine v_loc2 (by repeat' (first | with_reducible exact lsub_n | with_reducible refine lsub_c ?_ ?_ | with_reducible refine lk_hit ?_ | with_reducible refine lk_miss (by decide) ?_ ?_ | (first | exact rfl | exact congrArg (fun z => Value.int (nI z)) ep | exact congrArg (fun z => Value.int (nI z)) ew | exact congrArg (fun z => some (Value.int (nI z))) ep | exact congrArg (fun z => some (Value.int (nI z))) ew | (rw [eg]; exact rfl)))) (IHj (p + 1) _ ⟨by omega, hr9⟩ (by omega))
        · skip
          rw [b2c_0] at b75
          have eg : gc_ (fun p => stw_ (hp_I h 243) (ct_ h) nC sN 0 h rn w p b) (p + 1) = gc_ (fun p => stw_ (hp_I h 243) (ct_ h) nC sN 0 h rn w p b) p := cf_f b75
          have ep : sc_ (fun q => (∃ i, i < w ∧ stw_ (hp_I h 243) (ct_ h) nC sN 0 h rn i q b) ∨ (q < p ∧ stw_ (hp_I h 243) (ct_ h) nC sN 0 h rn w q b)) sN = sc_ (fun q => (∃ i, i < w ∧ stw_ (hp_I h 243) (ct_ h) nC sN 0 h rn i q b) ∨ (q < (p + 1) ∧ stw_ (hp_I h 243) (ct_ h) nC sN 0 h rn w q b)) sN := sc_cg fun q hq => ⟨fun z => z.elim Or.inl (fun y => Or.inr ⟨by omega, y.2⟩), fun z => z.elim Or.inl (fun y => Or.inr ⟨Nat.lt_of_le_of_ne (by omega) (fun u => b75 (by rw [← u]; exact y.2)), y.2⟩)⟩
          have ew : sc_ (fun i => (i < w ∧ ∃ q, q < sN ∧ stw_ (hp_I h 243) (ct_ h) nC sN 0 h rn i q b) ∨ (i = w ∧ ∃ q, q < p ∧ stw_ (hp_I h 243) (ct_ h) nC sN 0 h rn w q b)) nW = sc_ (fun i => (i < w ∧ ∃ q, q < sN ∧ stw_ (hp_I h 243) (ct_ h) nC sN 0 h rn i q b) ∨ (i = w ∧ ∃ q, q < (p + 1) ∧ stw_ (hp_I h 243) (ct_ h) nC sN 0 h rn w q b)) nW := sc_cg fun q hq => ⟨fun z => z.elim Or.inl (fun ⟨y1, q2, y2, y3⟩ => Or.inr ⟨y1, q2, by omega, y3⟩), fun z => z.elim Or.inl (fun ⟨y1, q2, y2, y3⟩ => Or.inr ⟨y1, q2, Nat.lt_of_le_of_ne (by omega) (fun u => b75 (by rw [← u]; exact y3)), y3⟩)⟩
          refine v_goto (tgt := 102) dX4_stories_78 (by decide) ?_
          refine v_iinc dX4_stories_102 rfl (by first | with_reducible exact nI_inc _ | exact rfl) (by decide) ?_
          refine v_goto (tgt := 56) dX4_stories_105 (by decide) ?_
          refine v_loc2 (by repeat' (first | with_reducible exact lsub_n | with_reducible refine lsub_c ?_ ?_ | with_reducible refine lk_hit ?_ | with_reducible refine lk_miss (by decide) ?_ ?_ | (first | exact rfl | exact congrArg (fun z => Value.int (nI z)) ep | exact congrArg (fun z => Value.int (nI z)) ew | exact congrArg (fun z => some (Value.int (nI z))) ep | exact congrArg (fun z => some (Value.int (nI z))) ew | (rw [eg]; exact rfl)))) (IHj (p + 1) _ ⟨by omega, hr9⟩ (by omega))
  · skip
    refine v_cut 25 (¬ (((0 ≤ r ∧ r < hp_I h 241 42) ∧ hp_I h 259 (7 * r.toNatClampNeg + 1) = 0) ∧ (0 ≤ x ∧ x ≤ 2))) (fun hz25 => ?_) (fun hc25 => ?_)
    · skip
      refine v_iconst (v := (-1)) dX4_stories_25 (by decide) ?_
      exact v_reti dX4_stories_26 rfl (Pf_i hpt (by unfold sp_stories; rw [cf_f hz25]))
    · skip
      refine v_aload_n dX4_stories_5 rfl rfl ?_
      refine v_iload_n dX4_stories_6 rfl rfl ?_
      refine v_pV mtX4_isOfThing q2081 q2083 qs100 rfl (by decide) dX4_stories_7 (c_X4_isOfThing (nR := nR) hm hR.1 hR9 _) (mK_obj hm) (by decide) ?_
      refine v_if_eq (tgt := 25) dX4_stories_10 (by decide) (fun b10 => ?_) (fun b10 => ?_)
      · skip
        exact hc25 (by rw [hR.1]; (try simp only [th_49] at *); (try simp only [b2i_0, b2i_n0] at *); grind)
      · skip
        refine v_iload_n dX4_stories_13 rfl rfl ?_
        refine v_i2l dX4_stories_14 ?_
        refine v_lconst (v := (0 : Int32).toInt64) dX4_stories_15 (by decide) ?_
        refine v_ldc2 (v := (2 : Int32).toInt64) q1919 dX4_stories_16 (by decide) ?_
        refine v_pS mtX4_within q1790 q1791 dX4_stories_19 (c_X4_within _ _ _) (by decide) ?_
        refine v_if_ne (tgt := 27) dX4_stories_22 (by decide) (fun b22 => ?_) (fun b22 => ?_)
        · skip
          exact hc27 (by rw [hR.1]; (try simp only [th_49] at *); (try simp only [b2i_0, b2i_n0] at *); grind)
        · skip
          exact hc25 (by rw [hR.1]; (try simp only [th_49] at *); (try simp only [b2i_0, b2i_n0] at *); grind)

