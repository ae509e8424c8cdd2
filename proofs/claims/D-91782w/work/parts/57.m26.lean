set_option maxRecDepth 100000
theorem LD_vou {A : Nat → Int32} {C : Nat → Nat → Int32} {nC sN a t : Nat} {S : Int32} {h : AH} (hv : sv_ok A sN) (hL : LD_ A C nC sN S h) (ha : a < 2 * sN) (ht : t < 100) : hp_I h 248 (100 * a + t) = nI (vo_ A C nC sN S 2870 a t) := by
  have e : hp_I h 248 (100 * a + t) = _ := hL.2.2.2 t ht 3 (by decide) a ha
  rw [e]
  exact vo_eq (sv_s hv).2 ha (hb_lt _ _ _ _ (by have := (sv_s hv).2; omega)) (fun k => hb_k hv ha ht)
/-- the hand, second and fewest of those that vouch: over hands, then over seconds -/
noncomputable def lh_ (good : Nat → Prop) (cnt : Nat → Nat) (t : Nat) (s0 : Int32 × Int32 × Nat) : Nat → Int32 × Int32 × Nat
  | 0 => s0
  | n + 1 => cf_ (cnt n < (lh_ good cnt t s0 n).2.2 ∧ good n) (nI n, nI t, cnt n) (lh_ good cnt t s0 n)
theorem lh_s (good : Nat → Prop) (cnt : Nat → Nat) (t : Nat) (s0 : Int32 × Int32 × Nat) (n : Nat) : lh_ good cnt t s0 (n + 1) = cf_ (cnt n < (lh_ good cnt t s0 n).2.2 ∧ good n) (nI n, nI t, cnt n) (lh_ good cnt t s0 n) := rfl
noncomputable def lt_ (good : Nat → Prop) (cnt : Nat → Nat → Nat) (n a : Nat) : Nat → Int32 × Int32 × Nat
  | 0 => (-1, -1, 100)
  | k + 1 => lh_ good (fun i => cnt i (a + k)) (a + k) (lt_ good cnt n a k) n
theorem ltt_s (good : Nat → Prop) (cnt : Nat → Nat → Nat) (n a k : Nat) : lt_ good cnt n a (k + 1) = lh_ good (fun i => cnt i (a + k)) (a + k) (lt_ good cnt n a k) n := rfl
theorem lh_le (good : Nat → Prop) (cnt : Nat → Nat) (t : Nat) (s0 : Int32 × Int32 × Nat) (h0 : s0.2.2 ≤ 100) : ∀ n, (lh_ good cnt t s0 n).2.2 ≤ 100
  | 0 => h0
  | n + 1 => by
    have ih := lh_le good cnt t s0 h0 n
    rw [lh_s]
    by_cases z : cnt n < (lh_ good cnt t s0 n).2.2 ∧ good n
    · rw [cf_t z]; show cnt n ≤ 100; omega
    · rw [cf_f z]; exact ih
theorem lt_le (good : Nat → Prop) (cnt : Nat → Nat → Nat) (n a : Nat) : ∀ k, (lt_ good cnt n a k).2.2 ≤ 100
  | 0 => Nat.le_refl _
  | k + 1 => lh_le good (fun i => cnt i (a + k)) (a + k) _ (lt_le good cnt n a k) n
noncomputable def lx_ (h : AH) (sN nC r : Nat) : Nat → Int32 × Int32 × Nat := lt_ (fun i => rc_ sN (i / 2) (wh_ (hp_I h 243) (hp_I h 259 (7 * r + 2)).toNatClampNeg (hp_I h 259 (7 * r + 4)) (nMov (hp_I h 243))).toNatClampNeg ∧ rc_ sN (i / 2) (hp_I h 259 (7 * r + 3)).toNatClampNeg) (fun i t => on_ (vo_ (hp_I h 243) (ct_ h) nC sN 0 2870 i t)) (2 * sN) (hp_I h 259 (7 * r + 4)).toNatClampNeg
noncomputable def lz_ (q : Int32 × Int32 × Nat) (x : Int32) : Int32 := cf_ (q.1 = -1) (-1) (cf_ (x = 0) q.1 (cf_ (x = 1) q.2.1 (nI q.2.2)))
noncomputable def sp_least (h : AH) (sN nC nW : Nat) (r x : Int32) (hx : AH) : Int32 × AH :=
  (cf_ (((0 ≤ r ∧ r < hp_I h 241 42) ∧ hp_I h 259 (7 * r.toNatClampNeg + 1) = 0) ∧ (0 ≤ x ∧ x ≤ 2) ∧ (hp_I h 259 (7 * r.toNatClampNeg + 2)).toNatClampNeg < nLaid (hp_I h 243)) (cf_ (∃ w, w < nW ∧ ∃ p, p < sN ∧ sto_ (hp_I h 243) (ct_ h) nC sN 0 h r.toNatClampNeg w p 0) (-1)
    (lz_ (lx_ h sN nC r.toNatClampNeg ((hp_I h 259 (7 * r.toNatClampNeg + 5)).toNatClampNeg + 1 - (hp_I h 259 (7 * r.toNatClampNeg + 4)).toNatClampNeg)) x)) (-1), hx)
set_option maxHeartbeats 2000000 in
theorem c_X4_least {G : Gv} {h : AH} {sN nC : Nat} (hS : MS_ h sN nC) {nR nW : Nat} (hR : RP_ h nR sN) (hW : WX_ h nW) (r x : Int32) : Ctr G 8 yX4_least cX4_least 10 (some .int) [.ref 241, .int r, .int x] h 0 0 (Pf h (sp_least h sN nC nW r x)) := by
  refine ctr_of (own := RX4) (nm := "least") (by decide) (Nat.le_of_ble_eq_true rfl) ?_
  have hm := hS.1
  have hS0 := MS_th hS
  have hs := hS.2.1
  have hv := hS.2.2.1
  have h3 := sv_s hv
  have hpt := fp_th h
  have hR0 := RP_th hR
  have hR9 := hR.2.1
  have hW2 := hW.2.1
  have hlaid := sv_laid hv
  refine v_aload_n dX4_least_0 rfl rfl ?_
  refine v_iconst (v := 0) dX4_least_1 (by decide) ?_
  refine v_thr fX4_1 dX4_least_2 hm ?_
  have hm := MI_th hm
  refine v_cut 40 (((0 ≤ r ∧ r < hp_I h 241 42) ∧ hp_I h 259 (7 * r.toNatClampNeg + 1) = 0) ∧ (0 ≤ x ∧ x ≤ 2) ∧ (hp_I h 259 (7 * r.toNatClampNeg + 2)).toNatClampNeg < nLaid (hp_I h 243)) (fun hz40 => ?_) (fun hc40 => ?_)
  · skip
    have hz9 := hz40
    rw [hR.1] at hz9
    obtain ⟨rn, hrn, rfl⟩ := nI_rng (x := r) (n := nR) hz9.1.1 (by omega)
    have h0 := hz9.1.2
    rw [nI_clamp (by omega)] at h0
    obtain ⟨-, ek, ⟨an, bn, hab, hbn, e4, e5⟩, -⟩ := hR.2.2 rn hrn
    obtain ⟨-, ⟨tn, htn, e2⟩, ⟨xn, hxn, e3⟩⟩ := ek.resolve_right (fun z => by rw [h0] at z; exact absurd z.1 (by decide))
    have hth := hz9.2.2
    rw [nI_clamp (n := rn) (by omega), e2, nI_clamp (by omega)] at hth
    obtain ⟨x0, hx0, ex0⟩ := wh_in (s := nI an) hv hth (nMov (hp_I h 243)) (Nat.le_refl _)
    refine v_aload_n dX4_least_40 rfl rfl ?_
    refine v_iconst (v := nI 0) dX4_least_41 (by decide) ?_
    refine v_zV mtX4_lays q1855 q1857 qs65 rfl (by decide) dX4_least_42 (c_lays hS0 _) (mK_obj hm) (by decide) (fun r42 h42 q42 z42 => ?_)
    obtain ⟨rfl, hL⟩ := q42
    have hL : LY_ (th_ h) nC sN 0 h42 := hL
    have hm : MI h42 := (MS_fr hS0 hL.1).1
    have hfx := fx_fr hL.1
    have hLd : LD_ (hp_I h 243) (ct_ h) nC sN 0 h42 := by
     have z := LY_LD hS0 hL
     rw [th_33, th_ct] at z
     exact z
    refine v_iconst (v := 0) dX4_least_45 (by decide) ?_
    refine v_istore_n dX4_least_46 rfl (by decide) ?_
    refine v_loc2 (by repeat' (first | with_reducible exact lsub_n | with_reducible refine lsub_c ?_ ?_ | with_reducible refine lk_hit ?_ | with_reducible refine lk_miss (by decide) ?_ ?_ | exact rfl)) (v_lp2 (fun (w : Nat) (hh : AH) => nW - w) (fun (w : Nat) (hh : AH) => w ≤ nW ∧ r6_ h42 hh ∧ ∀ i, i < w → ∀ p, p < sN → ¬ sto_ (hp_I h 243) (ct_ h) nC sN 0 h rn i p 0) (fun (w : Nat) (hh : AH) => [(0, .ref 241), (1, .int (nI rn)), (2, .int x), (3, .int (nI w))]) (fun (w : Nat) (hh : AH) => hh) ?_ 0 _ ⟨Nat.zero_le _, r6_rf _, fun i hi => absurd hi (Nat.not_lt_zero i)⟩)
    intro w hh hI IH
    obtain ⟨hI1, hr, hI2⟩ := hI
    have hm : MI hh := r6_m hr hLd.1
    have hph : fp_ h hh := fp_tr hpt (fp_tr (fp_fx hfx) (fp_r6 hr))
    have e249 : ∀ i, hp_I hh 259 i = hp_I h 259 i := fun i => by rw [fp_A hph 259 (by decide) (by decide)]
    have e233 := fp_33 hph
    have hs9 : hp_I hh 241 4 = nI sN := by rw [hr.2.2.2.2.2 4 (by omega), hLd.2.1]
    refine v_iload_n dX4_least_47 rfl rfl ?_
    refine v_aload_n dX4_least_48 rfl rfl ?_
    refine v_getI fX4_297 dX4_least_49 (mK_obj hm) ?_
    rw [hr.2.2.2.2.2 15 (by omega), hfx.2.2.2.2.2 15 (by omega), show hp_I (th_ h) 241 15 = nI nW from hW.1]
    refine v_icmp_ge (tgt := 93) dX4_least_52 (by decide) (fun b52 => ?_) (fun b52 => ?_)
    · skip
      rw [nI_leI (by omega) (by omega)] at b52
      have hk : nW = w := by omega
      subst hk
      have hmL := hLd.1
      refine v_aload_n dX4_least_93 rfl rfl ?_
      refine v_aload_n dX4_least_94 rfl rfl ?_
      refine v_iload_n dX4_least_95 rfl rfl ?_
      refine v_iconst (v := nI 2) dX4_least_96 (by decide) ?_
      refine v_pV mtX4_tellsOf q2053 q2055 qs96 rfl (by decide) dX4_least_97 (c_X4_tellsOf hm ?_) (mK_obj hm) (by decide) ?_
      · omega
      rw [e249 _, e2]
      refine v_aload_n dX4_least_100 rfl rfl ?_
      refine v_iload_n dX4_least_101 rfl rfl ?_
      refine v_iconst (v := nI 4) dX4_least_102 (by decide) ?_
      refine v_pV mtX4_tellsOf q2053 q2055 qs96 rfl (by decide) dX4_least_103 (c_X4_tellsOf hm ?_) (mK_obj hm) (by decide) ?_
      · omega
      rw [e249 _, e4]
      refine v_pV mtX4_ahead q1874 q1876 qs69 rfl (by decide) dX4_least_106 (c_X4_ahead hm (sN := sN) (by rw [e233]; exact hv) (by omega) _) (mK_obj hm) (by decide) ?_
      rw [e233, ex0]
      refine v_istore_n dX4_least_109 rfl (by decide) ?_
      refine v_iconst (v := (-1)) dX4_least_110 (by decide) ?_
      refine v_istore dX4_least_111 (by decide) ?_
      refine v_iconst (v := (-1)) dX4_least_113 (by decide) ?_
      refine v_istore dX4_least_114 (by decide) ?_
      refine v_bipush (v := 100) dX4_least_116 (by decide) ?_
      refine v_istore dX4_least_118 (by decide) ?_
      refine v_aload_n dX4_least_120 rfl rfl ?_
      refine v_iload_n dX4_least_121 rfl rfl ?_
      refine v_iconst (v := nI 4) dX4_least_122 (by decide) ?_
      refine v_pV mtX4_tellsOf q2053 q2055 qs96 rfl (by decide) dX4_least_123 (c_X4_tellsOf hm ?_) (mK_obj hm) (by decide) ?_
      · omega
      rw [e249 _, e4]
      refine v_istore dX4_least_126 (by decide) ?_
      refine v_loc2 (by repeat' (first | with_reducible exact lsub_n | with_reducible refine lsub_c ?_ ?_ | with_reducible refine lk_hit ?_ | with_reducible refine lk_miss (by decide) ?_ ?_ | exact rfl)) (v_lp1 (fun (k : Nat) => bn + 1 - an - k) (fun (k : Nat) => k ≤ bn + 1 - an) (fun (k : Nat) => [(0, .ref 241), (1, .int (nI rn)), (2, .int x), (3, .int (nI x0)), (4, .int (lt_ (fun i => rc_ sN (i / 2) x0 ∧ rc_ sN (i / 2) xn) (fun i t => on_ (vo_ (hp_I h 243) (ct_ h) nC sN 0 2870 i t)) (2 * sN) an k).1), (5, .int (lt_ (fun i => rc_ sN (i / 2) x0 ∧ rc_ sN (i / 2) xn) (fun i t => on_ (vo_ (hp_I h 243) (ct_ h) nC sN 0 2870 i t)) (2 * sN) an k).2.1), (6, .int (nI (lt_ (fun i => rc_ sN (i / 2) x0 ∧ rc_ sN (i / 2) xn) (fun i t => on_ (vo_ (hp_I h 243) (ct_ h) nC sN 0 2870 i t)) (2 * sN) an k).2.2)), (7, .int (nI (an + k)))]) (fun _ => []) (fun (k : Nat) => hh) ?_ 0 (Nat.zero_le _))
      intro k hK IHk
      have hle := lt_le (fun i => rc_ sN (i / 2) x0 ∧ rc_ sN (i / 2) xn) (fun i t => on_ (vo_ (hp_I h 243) (ct_ h) nC sN 0 2870 i t)) (2 * sN) an k
      refine v_iload dX4_least_128 rfl ?_
      refine v_aload_n dX4_least_130 rfl rfl ?_
      refine v_iload_n dX4_least_131 rfl rfl ?_
      refine v_iconst (v := nI 5) dX4_least_132 (by decide) ?_
      refine v_pV mtX4_tellsOf q2053 q2055 qs96 rfl (by decide) dX4_least_133 (c_X4_tellsOf hm ?_) (mK_obj hm) (by decide) ?_
      · omega
      rw [e249 _, e5]
      refine v_icmp_gt (tgt := 234) dX4_least_136 (by decide) (fun b136 => ?_) (fun b136 => ?_)
      · skip
        rw [nI_ltI (by omega) (by omega)] at b136
        have hk : bn + 1 - an = k := by omega
        refine v_iload dX4_least_234 rfl ?_
        refine v_iconst (v := (-1)) dX4_least_236 (by decide) ?_
        refine v_icmp_ne (tgt := 244) dX4_least_237 (by decide) (fun b237 => ?_) (fun b237 => ?_)
        · skip
          refine v_iload_n dX4_least_244 rfl rfl ?_
          refine v_if_ne (tgt := 253) dX4_least_245 (by decide) (fun b245 => ?_) (fun b245 => ?_)
          · skip
            refine v_iload_n dX4_least_253 rfl rfl ?_
            refine v_iconst (v := nI 1) dX4_least_254 (by decide) ?_
            refine v_icmp_ne (tgt := 263) dX4_least_255 (by decide) (fun b255 => ?_) (fun b255 => ?_)
            · skip
              refine v_iload dX4_least_263 rfl ?_
              refine v_reti dX4_least_265 rfl (Pf_i hph ?_)
              subst hk
              unfold sp_least
              rw [cf_t hz40, nI_clamp (n := rn) (by omega), cf_f (fun ⟨i, y1, q, y2, y3⟩ => hI2 i y1 q y2 y3)]
              refine congrArg (fun z => (z, _)) ?_
              unfold lx_ lz_
              rw [e2, e3, e4, e5]
              simp (disch := omega) only [nI_clamp]
              rw [ex0, nI_clamp (n := x0) (by omega)]
              first | exact cf_t b237 | (rw [cf_f b237]; first | exact cf_t b245 | (rw [cf_f b245]; first | exact cf_t b255 | exact cf_f b255))
            · skip
              refine v_iload dX4_least_258 rfl ?_
              refine v_goto (tgt := 265) dX4_least_260 (by decide) ?_
              refine v_reti dX4_least_265 rfl (Pf_i hph ?_)
              subst hk
              unfold sp_least
              rw [cf_t hz40, nI_clamp (n := rn) (by omega), cf_f (fun ⟨i, y1, q, y2, y3⟩ => hI2 i y1 q y2 y3)]
              refine congrArg (fun z => (z, _)) ?_
              unfold lx_ lz_
              rw [e2, e3, e4, e5]
              simp (disch := omega) only [nI_clamp]
              rw [ex0, nI_clamp (n := x0) (by omega)]
              first | exact cf_t b237 | (rw [cf_f b237]; first | exact cf_t b245 | (rw [cf_f b245]; first | exact cf_t b255 | exact cf_f b255))
          · skip
            refine v_iload dX4_least_248 rfl ?_
            refine v_goto (tgt := 265) dX4_least_250 (by decide) ?_
            refine v_reti dX4_least_265 rfl (Pf_i hph ?_)
            subst hk
            unfold sp_least
            rw [cf_t hz40, nI_clamp (n := rn) (by omega), cf_f (fun ⟨i, y1, q, y2, y3⟩ => hI2 i y1 q y2 y3)]
            refine congrArg (fun z => (z, _)) ?_
            unfold lx_ lz_
            rw [e2, e3, e4, e5]
            simp (disch := omega) only [nI_clamp]
            rw [ex0, nI_clamp (n := x0) (by omega)]
            first | exact cf_t b237 | (rw [cf_f b237]; first | exact cf_t b245 | (rw [cf_f b245]; first | exact cf_t b255 | exact cf_f b255))
        · skip
          refine v_iconst (v := (-1)) dX4_least_240 (by decide) ?_
          refine v_goto (tgt := 265) dX4_least_241 (by decide) ?_
          refine v_reti dX4_least_265 rfl (Pf_i hph ?_)
          subst hk
          unfold sp_least
          rw [cf_t hz40, nI_clamp (n := rn) (by omega), cf_f (fun ⟨i, y1, q, y2, y3⟩ => hI2 i y1 q y2 y3)]
          refine congrArg (fun z => (z, _)) ?_
          unfold lx_ lz_
          rw [e2, e3, e4, e5]
          simp (disch := omega) only [nI_clamp]
          rw [ex0, nI_clamp (n := x0) (by omega)]
          first | exact cf_t b237 | (rw [cf_f b237]; first | exact cf_t b245 | (rw [cf_f b245]; first | exact cf_t b255 | exact cf_f b255))
      · skip
        rw [nI_ltI (by omega) (by omega)] at b136
        have hk : an + k ≤ bn := by omega
        refine v_iconst (v := 0) dX4_least_139 (by decide) ?_
        refine v_istore dX4_least_140 (by decide) ?_
        refine v_loc2 (by repeat' (first | with_reducible exact lsub_n | with_reducible refine lsub_c ?_ ?_ | with_reducible refine lk_hit ?_ | with_reducible refine lk_miss (by decide) ?_ ?_ | exact rfl)) (v_lp1 (fun (a : Nat) => 2 * sN - a) (fun (a : Nat) => a ≤ 2 * sN) (fun (a : Nat) => [(0, .ref 241), (1, .int (nI rn)), (2, .int x), (3, .int (nI x0)), (4, .int (lh_ (fun i => rc_ sN (i / 2) x0 ∧ rc_ sN (i / 2) xn) (fun i => (fun i t => on_ (vo_ (hp_I h 243) (ct_ h) nC sN 0 2870 i t)) i (an + k)) (an + k) (lt_ (fun i => rc_ sN (i / 2) x0 ∧ rc_ sN (i / 2) xn) (fun i t => on_ (vo_ (hp_I h 243) (ct_ h) nC sN 0 2870 i t)) (2 * sN) an k) a).1), (5, .int (lh_ (fun i => rc_ sN (i / 2) x0 ∧ rc_ sN (i / 2) xn) (fun i => (fun i t => on_ (vo_ (hp_I h 243) (ct_ h) nC sN 0 2870 i t)) i (an + k)) (an + k) (lt_ (fun i => rc_ sN (i / 2) x0 ∧ rc_ sN (i / 2) xn) (fun i t => on_ (vo_ (hp_I h 243) (ct_ h) nC sN 0 2870 i t)) (2 * sN) an k) a).2.1), (6, .int (nI (lh_ (fun i => rc_ sN (i / 2) x0 ∧ rc_ sN (i / 2) xn) (fun i => (fun i t => on_ (vo_ (hp_I h 243) (ct_ h) nC sN 0 2870 i t)) i (an + k)) (an + k) (lt_ (fun i => rc_ sN (i / 2) x0 ∧ rc_ sN (i / 2) xn) (fun i t => on_ (vo_ (hp_I h 243) (ct_ h) nC sN 0 2870 i t)) (2 * sN) an k) a).2.2)), (7, .int (nI (an + k))), (8, .int (nI a))]) (fun _ => []) (fun (a : Nat) => hh) ?_ 0 (Nat.zero_le _))
        intro a hA9 IHa
        have hle2 := lh_le (fun i => rc_ sN (i / 2) x0 ∧ rc_ sN (i / 2) xn) (fun i => (fun i t => on_ (vo_ (hp_I h 243) (ct_ h) nC sN 0 2870 i t)) i (an + k)) (an + k) _ hle a
        have hon := on_le (vo_ (hp_I h 243) (ct_ h) nC sN 0 2870 a (an + k))
        refine v_iload dX4_least_142 rfl ?_
        refine v_iconst (v := 2) dX4_least_144 (by decide) ?_
        refine v_aload_n dX4_least_145 rfl rfl ?_
        refine v_getI fX4_24 dX4_least_146 (mK_obj hm) ?_
        rw [hr.2.2.2.2.2 4 (by omega), hLd.2.1]
        refine v_imul dX4_least_149 ?_
        rw [nI_2]
        refine v_icmp_ge (tgt := 228) dX4_least_150 (by decide) (fun b150 => ?_) (fun b150 => ?_)
        · skip
          rw [nI_leI (by omega) (by omega)] at b150
          have hk2 : 2 * sN = a := by omega
          subst hk2
          refine v_iinc dX4_least_228 rfl (by first | with_reducible exact nI_inc _ | exact rfl) (by decide) ?_
          refine v_goto (tgt := 128) dX4_least_231 (by decide) ?_
          refine v_loc2 (by repeat' (first | with_reducible exact lsub_n | with_reducible refine lsub_c ?_ ?_ | with_reducible refine lk_hit ?_ | with_reducible refine lk_miss (by decide) ?_ ?_ | exact rfl)) (IHk (k + 1) (by omega) (by omega))
        · skip
          rw [nI_leI (by omega) (by omega)] at b150
          have hk2 : a < 2 * sN := by omega
          refine v_aload_n dX4_least_153 rfl rfl ?_
          refine v_getR fX4_36 dX4_least_154 (mK_obj hm) (mR_vouched hm) ?_ fcA_I
          refine v_bipush (v := 100) dX4_least_157 (by decide) ?_
          refine v_iload dX4_least_159 rfl ?_
          refine v_imul dX4_least_161 ?_
          refine v_iload dX4_least_162 rfl ?_
          refine v_iadd dX4_least_164 ?_
          refine v_iald dX4_least_165 (mK_vouched hm) (ix_add (ix_mul (ix_lit _) rfl) rfl) (by first | assumption | omega) ?_
          rw [LD_vou hv (r6_LD hLd hr) hk2 (by omega)]
          refine v_pS mtX4_ones q2097 q2098 dX4_least_166 (c_X4_ones (n := vo_ (hp_I h 243) (ct_ h) nC sN 0 2870 a (an + k)) (vo_lt h3.2)) (by decide) ?_
          refine v_istore dX4_least_169 (by decide) ?_
          refine v_iload dX4_least_171 rfl ?_
          refine v_iload dX4_least_173 rfl ?_
          refine v_icmp_ge (tgt := 222) dX4_least_175 (by decide) (fun b175 => ?_) (fun b175 => ?_)
          · skip
            rw [nI_leI (by omega) (by omega)] at b175
            have hq : lh_ (fun i => rc_ sN (i / 2) x0 ∧ rc_ sN (i / 2) xn) (fun i => (fun i t => on_ (vo_ (hp_I h 243) (ct_ h) nC sN 0 2870 i t)) i (an + k)) (an + k) (lt_ (fun i => rc_ sN (i / 2) x0 ∧ rc_ sN (i / 2) xn) (fun i t => on_ (vo_ (hp_I h 243) (ct_ h) nC sN 0 2870 i t)) (2 * sN) an k) (a + 1) = lh_ (fun i => rc_ sN (i / 2) x0 ∧ rc_ sN (i / 2) xn) (fun i => (fun i t => on_ (vo_ (hp_I h 243) (ct_ h) nC sN 0 2870 i t)) i (an + k)) (an + k) (lt_ (fun i => rc_ sN (i / 2) x0 ∧ rc_ sN (i / 2) xn) (fun i t => on_ (vo_ (hp_I h 243) (ct_ h) nC sN 0 2870 i t)) (2 * sN) an k) a := by rw [lh_s]; exact cf_f (fun z => Nat.not_lt.mpr b175 z.1)
            refine v_iinc dX4_least_222 rfl (by first | with_reducible exact nI_inc _ | exact rfl) (by decide) ?_
            refine v_goto (tgt := 142) dX4_least_225 (by decide) ?_
            refine v_loc2 (by repeat' (first | with_reducible exact lsub_n | with_reducible refine lsub_c ?_ ?_ | with_reducible refine lk_hit ?_ | with_reducible refine lk_miss (by decide) ?_ ?_ | (first | exact rfl | (rw [hq]; done) | (rw [hq]; exact rfl)))) (IHa (a + 1) (by omega) (by omega))
          · skip
            rw [nI_leI (by omega) (by omega)] at b175
            refine v_aload_n dX4_least_178 rfl rfl ?_
            refine v_iload dX4_least_179 rfl ?_
            refine v_iconst (v := 2) dX4_least_181 (by decide) ?_
            refine v_idiv dX4_least_182 (by decide) ?_
            rw [show (nI a / 2 : Int32) = nI (a / 2) from pk_div (d := 2) (by omega) (by decide) (by decide)]
            refine v_iload_n dX4_least_183 rfl rfl ?_
            refine v_pV mtX4_reaches q1882 q1884 qs71 rfl (by decide) dX4_least_184 (c_X4_reaches (p := a / 2) (x := x0) hm hs9 h3 (by omega) (by omega)) (mK_obj hm) (by decide) ?_
            refine v_if_eq (tgt := 222) dX4_least_187 (by decide) (fun b187 => ?_) (fun b187 => ?_)
            · skip
              rw [b2i_0] at b187
              have hq : lh_ (fun i => rc_ sN (i / 2) x0 ∧ rc_ sN (i / 2) xn) (fun i => (fun i t => on_ (vo_ (hp_I h 243) (ct_ h) nC sN 0 2870 i t)) i (an + k)) (an + k) (lt_ (fun i => rc_ sN (i / 2) x0 ∧ rc_ sN (i / 2) xn) (fun i t => on_ (vo_ (hp_I h 243) (ct_ h) nC sN 0 2870 i t)) (2 * sN) an k) (a + 1) = lh_ (fun i => rc_ sN (i / 2) x0 ∧ rc_ sN (i / 2) xn) (fun i => (fun i t => on_ (vo_ (hp_I h 243) (ct_ h) nC sN 0 2870 i t)) i (an + k)) (an + k) (lt_ (fun i => rc_ sN (i / 2) x0 ∧ rc_ sN (i / 2) xn) (fun i t => on_ (vo_ (hp_I h 243) (ct_ h) nC sN 0 2870 i t)) (2 * sN) an k) a := by rw [lh_s]; exact cf_f (fun z => b187 z.2.1)
              refine v_iinc dX4_least_222 rfl (by first | with_reducible exact nI_inc _ | exact rfl) (by decide) ?_
              refine v_goto (tgt := 142) dX4_least_225 (by decide) ?_
              refine v_loc2 (by repeat' (first | with_reducible exact lsub_n | with_reducible refine lsub_c ?_ ?_ | with_reducible refine lk_hit ?_ | with_reducible refine lk_miss (by decide) ?_ ?_ | (first | exact rfl | (rw [hq]; done) | (rw [hq]; exact rfl)))) (IHa (a + 1) (by omega) (by omega))
            · skip
              rw [b2i_n0] at b187
              refine v_aload_n dX4_least_190 rfl rfl ?_
              refine v_iload dX4_least_191 rfl ?_
              refine v_iconst (v := 2) dX4_least_193 (by decide) ?_
              refine v_idiv dX4_least_194 (by decide) ?_
              rw [show (nI a / 2 : Int32) = nI (a / 2) from pk_div (d := 2) (by omega) (by decide) (by decide)]
              refine v_aload_n dX4_least_195 rfl rfl ?_
              refine v_iload_n dX4_least_196 rfl rfl ?_
              refine v_iconst (v := nI 3) dX4_least_197 (by decide) ?_
              refine v_pV mtX4_tellsOf q2053 q2055 qs96 rfl (by decide) dX4_least_198 (c_X4_tellsOf hm ?_) (mK_obj hm) (by decide) ?_
              · omega
              rw [e249 _, e3]
              refine v_pV mtX4_reaches q1882 q1884 qs71 rfl (by decide) dX4_least_201 (c_X4_reaches (p := a / 2) (x := xn) hm hs9 h3 (by omega) (by omega)) (mK_obj hm) (by decide) ?_
              refine v_if_ne (tgt := 210) dX4_least_204 (by decide) (fun b204 => ?_) (fun b204 => ?_)
              · skip
                rw [b2i_n0] at b204
                have hq : lh_ (fun i => rc_ sN (i / 2) x0 ∧ rc_ sN (i / 2) xn) (fun i => (fun i t => on_ (vo_ (hp_I h 243) (ct_ h) nC sN 0 2870 i t)) i (an + k)) (an + k) (lt_ (fun i => rc_ sN (i / 2) x0 ∧ rc_ sN (i / 2) xn) (fun i t => on_ (vo_ (hp_I h 243) (ct_ h) nC sN 0 2870 i t)) (2 * sN) an k) (a + 1) = (nI a, nI (an + k), (fun i t => on_ (vo_ (hp_I h 243) (ct_ h) nC sN 0 2870 i t)) a (an + k)) := by rw [lh_s]; exact cf_t ⟨Nat.not_le.mp b175, b187, b204⟩
                refine v_iload dX4_least_210 rfl ?_
                refine v_istore dX4_least_212 (by decide) ?_
                refine v_iload dX4_least_214 rfl ?_
                refine v_istore dX4_least_216 (by decide) ?_
                refine v_iload dX4_least_218 rfl ?_
                refine v_istore dX4_least_220 (by decide) ?_
                refine v_iinc dX4_least_222 rfl (by first | with_reducible exact nI_inc _ | exact rfl) (by decide) ?_
                refine v_goto (tgt := 142) dX4_least_225 (by decide) ?_
                refine v_loc2 (by repeat' (first | with_reducible exact lsub_n | with_reducible refine lsub_c ?_ ?_ | with_reducible refine lk_hit ?_ | with_reducible refine lk_miss (by decide) ?_ ?_ | (first | exact rfl | (rw [hq]; done) | (rw [hq]; exact rfl)))) (IHa (a + 1) (by omega) (by omega))
              · skip
                rw [b2i_0] at b204
                have hq : lh_ (fun i => rc_ sN (i / 2) x0 ∧ rc_ sN (i / 2) xn) (fun i => (fun i t => on_ (vo_ (hp_I h 243) (ct_ h) nC sN 0 2870 i t)) i (an + k)) (an + k) (lt_ (fun i => rc_ sN (i / 2) x0 ∧ rc_ sN (i / 2) xn) (fun i t => on_ (vo_ (hp_I h 243) (ct_ h) nC sN 0 2870 i t)) (2 * sN) an k) (a + 1) = lh_ (fun i => rc_ sN (i / 2) x0 ∧ rc_ sN (i / 2) xn) (fun i => (fun i t => on_ (vo_ (hp_I h 243) (ct_ h) nC sN 0 2870 i t)) i (an + k)) (an + k) (lt_ (fun i => rc_ sN (i / 2) x0 ∧ rc_ sN (i / 2) xn) (fun i t => on_ (vo_ (hp_I h 243) (ct_ h) nC sN 0 2870 i t)) (2 * sN) an k) a := by rw [lh_s]; exact cf_f (fun z => b204 z.2.2)
                refine v_goto (tgt := 222) dX4_least_207 (by decide) ?_
                refine v_iinc dX4_least_222 rfl (by first | with_reducible exact nI_inc _ | exact rfl) (by decide) ?_
                refine v_goto (tgt := 142) dX4_least_225 (by decide) ?_
                refine v_loc2 (by repeat' (first | with_reducible exact lsub_n | with_reducible refine lsub_c ?_ ?_ | with_reducible refine lk_hit ?_ | with_reducible refine lk_miss (by decide) ?_ ?_ | (first | exact rfl | (rw [hq]; done) | (rw [hq]; exact rfl)))) (IHa (a + 1) (by omega) (by omega))
    · skip
      rw [nI_leI (by omega) (by omega)] at b52
      have hk : w < nW := by omega
      refine v_iconst (v := 0) dX4_least_55 (by decide) ?_
      refine v_istore dX4_least_56 (by decide) ?_
      refine v_loc2 (by repeat' (first | with_reducible exact lsub_n | with_reducible refine lsub_c ?_ ?_ | with_reducible refine lk_hit ?_ | with_reducible refine lk_miss (by decide) ?_ ?_ | exact rfl)) (v_lp2 (fun (p : Nat) (hi : AH) => sN - p) (fun (p : Nat) (hi : AH) => p ≤ sN ∧ r6_ h42 hi ∧ ∀ q, q < p → ¬ sto_ (hp_I h 243) (ct_ h) nC sN 0 h rn w q 0) (fun (p : Nat) (hi : AH) => [(0, .ref 241), (1, .int (nI rn)), (2, .int x), (3, .int (nI w)), (4, .int (nI p))]) (fun (p : Nat) (hi : AH) => hi) ?_ 0 _ ⟨Nat.zero_le _, hr, fun i hi => absurd hi (Nat.not_lt_zero i)⟩)
      intro p hi hJ IHj
      obtain ⟨hJ1, hrr, hJ2⟩ := hJ
      have hm : MI hi := r6_m hrr hLd.1
      have hpi : fp_ h hi := fp_tr hpt (fp_tr (fp_fx hfx) (fp_r6 hrr))
      refine v_iload dX4_least_58 rfl ?_
      refine v_aload_n dX4_least_60 rfl rfl ?_
      refine v_getI fX4_24 dX4_least_61 (mK_obj hm) ?_
      rw [hrr.2.2.2.2.2 4 (by omega), hLd.2.1]
      refine v_icmp_ge (tgt := 87) dX4_least_64 (by decide) (fun b64 => ?_) (fun b64 => ?_)
      · skip
        rw [nI_leI (by omega) (by omega)] at b64
        have hk2 : sN = p := by omega
        refine v_iinc dX4_least_87 rfl (by first | with_reducible exact nI_inc _ | exact rfl) (by decide) ?_
        refine v_goto (tgt := 47) dX4_least_90 (by decide) ?_
        refine v_loc2 (by repeat' (first | with_reducible exact lsub_n | with_reducible refine lsub_c ?_ ?_ | with_reducible refine lk_hit ?_ | with_reducible refine lk_miss (by decide) ?_ ?_ | exact rfl)) (IH (w + 1) _ ⟨by omega, hrr, fun i hi => (Nat.lt_succ_iff_lt_or_eq.mp hi).elim (hI2 i) (fun y => by rw [y]; exact fun p hp => hJ2 p (by omega))⟩ (by omega))
      · skip
        rw [nI_leI (by omega) (by omega)] at b64
        have hk2 : p < sN := by omega
        refine v_aload_n dX4_least_67 rfl rfl ?_
        refine v_iload_n dX4_least_68 rfl rfl ?_
        refine v_iload_n dX4_least_69 rfl rfl ?_
        refine v_iload dX4_least_70 rfl ?_
        refine v_iconst (v := nI 0) dX4_least_72 (by decide) ?_
        refine v_zV mtX4_isStory q2089 q2091 qs102 rfl (by decide) dX4_least_73 (c_X4_isStory (r := rn) (w := w) (p := p) (f := 0) hv (r6_LD hLd hrr) (RP_fp hpi hR) hrn (by rw [fp_A hpi 259 (by decide) (by decide)]; exact h0) (fp_WX hpi hW) hk hk2 (by decide)) (mK_obj hm) (by decide) (fun r73 h73 q73 z73 => ?_)
        obtain ⟨rfl, hr6⟩ := q73
        have hr9 := r6_tr hrr hr6
        rw [propext (sto_fp hpi)]
        refine v_if_eq (tgt := 81) dX4_least_76 (by decide) (fun b76 => ?_) (fun b76 => ?_)
        · skip
          rw [b2c_0] at b76
          refine v_iinc dX4_least_81 rfl (by first | with_reducible exact nI_inc _ | exact rfl) (by decide) ?_
          refine v_goto (tgt := 58) dX4_least_84 (by decide) ?_
          refine v_loc2 (by repeat' (first | with_reducible exact lsub_n | with_reducible refine lsub_c ?_ ?_ | with_reducible refine lk_hit ?_ | with_reducible refine lk_miss (by decide) ?_ ?_ | exact rfl)) (IHj (p + 1) _ ⟨by omega, r6_tr hrr hr6, fun q hq => (Nat.lt_succ_iff_lt_or_eq.mp hq).elim (hJ2 q) (fun y => by rw [y]; exact b76)⟩ (by omega))
        · skip
          rw [b2c_n0] at b76
          refine v_iconst (v := (-1)) dX4_least_79 (by decide) ?_
          exact v_reti dX4_least_80 rfl (Pf_i (fp_tr hpi (fp_r6 hr6)) (by unfold sp_least; rw [cf_t hz40, nI_clamp (by omega)]; rw [cf_t ⟨w, hk, p, hk2, b76⟩]))
  · skip
    refine v_cut 38 (¬ (((0 ≤ r ∧ r < hp_I h 241 42) ∧ hp_I h 259 (7 * r.toNatClampNeg + 1) = 0) ∧ (0 ≤ x ∧ x ≤ 2) ∧ (hp_I h 259 (7 * r.toNatClampNeg + 2)).toNatClampNeg < nLaid (hp_I h 243))) (fun hz38 => ?_) (fun hc38 => ?_)
    · skip
      refine v_iconst (v := (-1)) dX4_least_38 (by decide) ?_
      exact v_reti dX4_least_39 rfl (Pf_i hpt (by unfold sp_least; rw [cf_f hz38]))
    · skip
      refine v_aload_n dX4_least_5 rfl rfl ?_
      refine v_iload_n dX4_least_6 rfl rfl ?_
      refine v_pV mtX4_isOfThing q2081 q2083 qs100 rfl (by decide) dX4_least_7 (c_X4_isOfThing (nR := nR) hm hR.1 hR9 _) (mK_obj hm) (by decide) ?_
      refine v_if_eq (tgt := 38) dX4_least_10 (by decide) (fun b10 => ?_) (fun b10 => ?_)
      · skip
        rw [b2i_0, th_49] at b10
        have hq : ¬ (((0 ≤ r ∧ r < hp_I h 241 42) ∧ hp_I h 259 (7 * r.toNatClampNeg + 1) = 0) ∧ (0 ≤ x ∧ x ≤ 2) ∧ (hp_I h 259 (7 * r.toNatClampNeg + 2)).toNatClampNeg < nLaid (hp_I h 243)) := fun z => b10 (by rw [← hR.1]; exact z.1)
        exact hc38 hq
      · skip
        rw [b2i_n0, th_49] at b10
        refine v_iload_n dX4_least_13 rfl rfl ?_
        refine v_i2l dX4_least_14 ?_
        refine v_lconst (v := (0 : Int32).toInt64) dX4_least_15 (by decide) ?_
        refine v_ldc2 (v := (2 : Int32).toInt64) q1919 dX4_least_16 (by decide) ?_
        refine v_pS mtX4_within q1790 q1791 dX4_least_19 (c_X4_within _ _ _) (by decide) ?_
        refine v_if_eq (tgt := 38) dX4_least_22 (by decide) (fun b22 => ?_) (fun b22 => ?_)
        · skip
          rw [b2i_0] at b22
          have hq : ¬ (((0 ≤ r ∧ r < hp_I h 241 42) ∧ hp_I h 259 (7 * r.toNatClampNeg + 1) = 0) ∧ (0 ≤ x ∧ x ≤ 2) ∧ (hp_I h 259 (7 * r.toNatClampNeg + 2)).toNatClampNeg < nLaid (hp_I h 243)) := fun z => b22 z.2.1
          exact hc38 hq
        · skip
          rw [b2i_n0] at b22
          obtain ⟨rn, hrn, rfl⟩ := nI_rng (x := r) (n := nR) b10.1 (by omega)
          have h0 := b10.2
          rw [nI_clamp (by omega)] at h0
          obtain ⟨-, ek, ⟨an, bn, hab, hbn, e4, e5⟩, -⟩ := hR.2.2 rn hrn
          obtain ⟨-, ⟨tn, htn, e2⟩, ⟨xn, hxn, e3⟩⟩ := ek.resolve_right (fun z => by rw [h0] at z; exact absurd z.1 (by decide))
          refine v_aload_n dX4_least_25 rfl rfl ?_
          refine v_aload_n dX4_least_26 rfl rfl ?_
          refine v_iload_n dX4_least_27 rfl rfl ?_
          refine v_iconst (v := nI 2) dX4_least_28 (by decide) ?_
          refine v_pV mtX4_tellsOf q2053 q2055 qs96 rfl (by decide) dX4_least_29 (c_X4_tellsOf hm ?_) (mK_obj hm) (by decide) ?_
          · omega
          rw [th_49, e2]
          refine v_pV mtX4_isThing q1851 q1853 qs64 rfl (by decide) dX4_least_32 (c_X4_isThing hm _) (mK_obj hm) (by decide) ?_
          refine v_if_ne (tgt := 40) dX4_least_35 (by decide) (fun b35 => ?_) (fun b35 => ?_)
          · skip
            rw [b2i_n0, th_33, hlaid.2] at b35
            have hq : ((0 ≤ (nI rn) ∧ (nI rn) < hp_I h 241 42) ∧ hp_I h 259 (7 * (nI rn).toNatClampNeg + 1) = 0) ∧ (0 ≤ x ∧ x ≤ 2) ∧ (hp_I h 259 (7 * (nI rn).toNatClampNeg + 2)).toNatClampNeg < nLaid (hp_I h 243) := ⟨⟨by rw [hR.1]; exact b10.1, b10.2⟩, b22, by rw [nI_clamp (n := rn) (by omega), e2, nI_clamp (by omega)]; exact (nI_ltI (by omega) (by omega)).mp b35.2⟩
            exact hc40 hq
          · skip
            rw [b2i_0, th_33, hlaid.2] at b35
            have hq : ¬ (((0 ≤ (nI rn) ∧ (nI rn) < hp_I h 241 42) ∧ hp_I h 259 (7 * (nI rn).toNatClampNeg + 1) = 0) ∧ (0 ≤ x ∧ x ≤ 2) ∧ (hp_I h 259 (7 * (nI rn).toNatClampNeg + 2)).toNatClampNeg < nLaid (hp_I h 243)) := fun z => b35 ⟨nI_pos (by omega) |> Int32.not_lt.mp, (nI_ltI (by omega) (by omega)).mpr (by have := z.2.2; rw [nI_clamp (n := rn) (by omega), e2, nI_clamp (by omega)] at this; exact this)⟩
            exact hc38 hq

