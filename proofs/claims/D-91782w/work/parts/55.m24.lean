set_option maxRecDepth 100000
/-- what a set of controls costs -/
def co_ (C : Nat → Nat → Int32) (k : Nat) : Nat → Int32
  | 0 => 0
  | n + 1 => co_ C k n + (if k.testBit n = true then C 5 n else 0)
theorem co_z (C : Nat → Nat → Int32) (k : Nat) : co_ C k 0 = 0 := rfl
theorem co_s (C : Nat → Nat → Int32) (k n : Nat) : co_ C k (n + 1) = co_ C k n + (if k.testBit n = true then C 5 n else 0) := rfl
/-- the better of two -/
def cb_ (b bc c : Int32) (k : Nat) : Prop := b = -1 ∨ c < bc ∨ (c = bc ∧ on_ k < on_ b.toNatClampNeg)
noncomputable def ch_ (h : AH) (sN nC nW th g s e : Nat) : Nat → Int32 × Int32
  | 0 => (-1, 0)
  | k + 1 => cf_ (cb_ (ch_ h sN nC nW th g s e k).1 (ch_ h sN nC nW th g s e k).2 (co_ (ct_ h) k nC) k ∧ dc_ (hp_I h 243) (ct_ h) nC sN (nI k) h nW th g s e) (nI k, co_ (ct_ h) k nC) (ch_ h sN nC nW th g s e k)
theorem ch_z (h : AH) (sN nC nW th g s e : Nat) : ch_ h sN nC nW th g s e 0 = (-1, 0) := rfl
theorem ch_s (h : AH) (sN nC nW th g s e k : Nat) : ch_ h sN nC nW th g s e (k + 1) = cf_ (cb_ (ch_ h sN nC nW th g s e k).1 (ch_ h sN nC nW th g s e k).2 (co_ (ct_ h) k nC) k ∧ dc_ (hp_I h 243) (ct_ h) nC sN (nI k) h nW th g s e) (nI k, co_ (ct_ h) k nC) (ch_ h sN nC nW th g s e k) := rfl
theorem ch_in (h : AH) (sN nC nW th g s e : Nat) : ∀ k, (ch_ h sN nC nW th g s e k).1 = -1 ∨ ∃ j, j < k ∧ (ch_ h sN nC nW th g s e k).1 = nI j
  | 0 => Or.inl rfl
  | k + 1 => by
    rw [ch_s]
    by_cases z : cb_ (ch_ h sN nC nW th g s e k).1 (ch_ h sN nC nW th g s e k).2 (co_ (ct_ h) k nC) k ∧ dc_ (hp_I h 243) (ct_ h) nC sN (nI k) h nW th g s e
    · rw [cf_t z]; exact Or.inr ⟨k, by omega, rfl⟩
    · rw [cf_f z]
      rcases ch_in h sN nC nW th g s e k with y | ⟨j, y1, y2⟩
      · exact Or.inl y
      · exact Or.inr ⟨j, by omega, y2⟩
noncomputable def sp_cheapest (h : AH) (sN nC nW : Nat) (th g s e x : Int32) (hx : AH) : Int32 × AH :=
  (cf_ (tsk_ h th g s e ∧ (0 ≤ x ∧ x ≤ 1)) (cf_ ((ch_ h sN nC nW th.toNatClampNeg g.toNatClampNeg s.toNatClampNeg e.toNatClampNeg (2 ^ nC)).1 = -1) (-1) (cf_ (x = 0) (ch_ h sN nC nW th.toNatClampNeg g.toNatClampNeg s.toNatClampNeg e.toNatClampNeg (2 ^ nC)).1 (ch_ h sN nC nW th.toNatClampNeg g.toNatClampNeg s.toNatClampNeg e.toNatClampNeg (2 ^ nC)).2)) (-1), hx)
set_option maxHeartbeats 2000000 in
theorem c_X4_cheapest {G : Gv} {h : AH} {sN nC : Nat} (hS : MS_ h sN nC) {nW : Nat} (hW : WX_ h nW) (th g s e x : Int32) : Ctr G 8 yX4_cheapest cX4_cheapest 11 (some .int) [.ref 241, .int th, .int g, .int s, .int e, .int x] h 0 0 (Pf h (sp_cheapest h sN nC nW th g s e x)) := by
  refine ctr_of (own := RX4) (nm := "cheapest") (by decide) (Nat.le_of_ble_eq_true rfl) ?_
  have hm := hS.1
  have hS0 := MS_th hS
  have hs := hS.2.1
  have hv := hS.2.2.1
  have h3 := sv_s hv
  have hpt := fp_th h
  have hC8 := hS.2.2.2.2.1
  have hCh : hp_I h 241 48 = nI nC := hS.2.2.2.1
  have hpw : 2 ^ nC ≤ 2 ^ 8 := Nat.pow_le_pow_right (by decide) hC8
  refine v_aload_n dX4_cheapest_0 rfl rfl ?_
  refine v_iconst (v := 0) dX4_cheapest_1 (by decide) ?_
  refine v_thr fX4_1 dX4_cheapest_2 hm ?_
  have hm := MI_th hm
  refine v_cut 30 (tsk_ h th g s e ∧ (0 ≤ x ∧ x ≤ 1)) (fun hz30 => ?_) (fun hc30 => ?_)
  · skip
    obtain ⟨⟨q4, q5, q6⟩, q7⟩ := hz30
    rw [(sv_laid hv).2] at q4
    rw [hs] at q5
    have hlaid := (sv_laid hv).1
    obtain ⟨thn, hthn, rfl⟩ := nI_rng q4 (by omega)
    obtain ⟨gn, hgn, rfl⟩ := nI_rngE q5 (by omega)
    obtain ⟨sn, en, hse, hen, rfl, rfl⟩ := sec2 q6
    refine v_iconst (v := (-1)) dX4_cheapest_30 (by decide) ?_
    refine v_istore dX4_cheapest_31 (by decide) ?_
    refine v_iconst (v := 0) dX4_cheapest_33 (by decide) ?_
    refine v_istore dX4_cheapest_34 (by decide) ?_
    refine v_iconst (v := 0) dX4_cheapest_36 (by decide) ?_
    refine v_istore dX4_cheapest_37 (by decide) ?_
    refine v_loc2 (by repeat' (first | with_reducible exact lsub_n | with_reducible refine lsub_c ?_ ?_ | with_reducible refine lk_hit ?_ | with_reducible refine lk_miss (by decide) ?_ ?_ | exact rfl)) (v_lp2 (fun (k : Nat) (hh : AH) => 2 ^ nC - k) (fun (k : Nat) (hh : AH) => k ≤ 2 ^ nC ∧ fx_ (th_ h) hh) (fun (k : Nat) (hh : AH) => [(0, .ref 241), (1, .int (nI thn)), (2, .int (nI gn)), (3, .int (nI sn)), (4, .int (nI en)), (5, .int x), (6, .int (ch_ h sN nC nW thn gn sn en k).1), (7, .int (ch_ h sN nC nW thn gn sn en k).2), (8, .int (nI k))]) (fun (k : Nat) (hh : AH) => hh) ?_ 0 _ ⟨Nat.zero_le _, fx_rf _⟩)
    intro k hh hI IH
    obtain ⟨hI1, hr⟩ := hI
    have hm : MI hh := (fx_MS hS0 hr).1
    refine v_iload dX4_cheapest_39 rfl ?_
    refine v_iconst (v := 1) dX4_cheapest_41 (by decide) ?_
    refine v_aload_n dX4_cheapest_42 rfl rfl ?_
    refine v_getI fX4_122 dX4_cheapest_43 (mK_obj hm) ?_
    rw [hr.2.2.2.2.2 48 (by omega), show hp_I (th_ h) 241 48 = nI nC from hCh]
    refine v_ishl dX4_cheapest_46 ?_
    rw [sh_1 (by omega)]
    refine v_icmp_ge (tgt := 173) dX4_cheapest_47 (by decide) (fun b47 => ?_) (fun b47 => ?_)
    · skip
      rw [nI_leI (by omega) (by omega)] at b47
      have hk : 2 ^ nC = k := by omega
      refine v_iload dX4_cheapest_173 rfl ?_
      refine v_iconst (v := (-1)) dX4_cheapest_175 (by decide) ?_
      refine v_icmp_ne (tgt := 183) dX4_cheapest_176 (by decide) (fun b176 => ?_) (fun b176 => ?_)
      · skip
        refine v_iload dX4_cheapest_183 rfl ?_
        refine v_if_ne (tgt := 193) dX4_cheapest_185 (by decide) (fun b185 => ?_) (fun b185 => ?_)
        · skip
          refine v_iload dX4_cheapest_193 rfl ?_
          subst hk
          refine v_reti dX4_cheapest_195 rfl (Pf_i (fp_tr hpt (fp_fx hr)) ?_)
          unfold sp_cheapest
          rw [← hs] at q5
          rw [← (sv_laid hv).2] at q4
          rw [cf_t ⟨⟨q4, q5, q6⟩, q7⟩]
          simp (disch := omega) only [nI_clamp]
          refine congrArg (fun z => (z, _)) ?_
          first | (rw [cf_t b176]; done) | (rw [cf_f b176, cf_t b185]; done) | (rw [cf_f b176, cf_f b185]; done)
        · skip
          refine v_iload dX4_cheapest_188 rfl ?_
          refine v_goto (tgt := 195) dX4_cheapest_190 (by decide) ?_
          subst hk
          refine v_reti dX4_cheapest_195 rfl (Pf_i (fp_tr hpt (fp_fx hr)) ?_)
          unfold sp_cheapest
          rw [← hs] at q5
          rw [← (sv_laid hv).2] at q4
          rw [cf_t ⟨⟨q4, q5, q6⟩, q7⟩]
          simp (disch := omega) only [nI_clamp]
          refine congrArg (fun z => (z, _)) ?_
          first | (rw [cf_t b176]; done) | (rw [cf_f b176, cf_t b185]; done) | (rw [cf_f b176, cf_f b185]; done)
      · skip
        refine v_iconst (v := (-1)) dX4_cheapest_179 (by decide) ?_
        refine v_goto (tgt := 195) dX4_cheapest_180 (by decide) ?_
        subst hk
        refine v_reti dX4_cheapest_195 rfl (Pf_i (fp_tr hpt (fp_fx hr)) ?_)
        unfold sp_cheapest
        rw [← hs] at q5
        rw [← (sv_laid hv).2] at q4
        rw [cf_t ⟨⟨q4, q5, q6⟩, q7⟩]
        simp (disch := omega) only [nI_clamp]
        refine congrArg (fun z => (z, _)) ?_
        first | (rw [cf_t b176]; done) | (rw [cf_f b176, cf_t b185]; done) | (rw [cf_f b176, cf_f b185]; done)
    · skip
      rw [nI_leI (by omega) (by omega)] at b47
      have hk : k < 2 ^ nC := by omega
      refine v_iconst (v := 0) dX4_cheapest_50 (by decide) ?_
      refine v_istore dX4_cheapest_51 (by decide) ?_
      refine v_iconst (v := 0) dX4_cheapest_53 (by decide) ?_
      refine v_istore dX4_cheapest_54 (by decide) ?_
      refine v_loc2 (by repeat' (first | with_reducible exact lsub_n | with_reducible refine lsub_c ?_ ?_ | with_reducible refine lk_hit ?_ | with_reducible refine lk_miss (by decide) ?_ ?_ | exact rfl)) (v_lp1 (fun (n : Nat) => nC - n) (fun (n : Nat) => n ≤ nC) (fun (n : Nat) => [(0, .ref 241), (1, .int (nI thn)), (2, .int (nI gn)), (3, .int (nI sn)), (4, .int (nI en)), (5, .int x), (6, .int (ch_ h sN nC nW thn gn sn en k).1), (7, .int (ch_ h sN nC nW thn gn sn en k).2), (8, .int (nI k)), (9, .int (co_ (ct_ h) k n)), (10, .int (nI n))]) (fun _ => []) (fun (n : Nat) => hh) ?_ 0 (Nat.zero_le _))
      intro n hJ1 IHj
      refine v_iload dX4_cheapest_56 rfl ?_
      refine v_aload_n dX4_cheapest_58 rfl rfl ?_
      refine v_getI fX4_122 dX4_cheapest_59 (mK_obj hm) ?_
      rw [hr.2.2.2.2.2 48 (by omega), show hp_I (th_ h) 241 48 = nI nC from hCh]
      refine v_icmp_ge (tgt := 97) dX4_cheapest_62 (by decide) (fun b62 => ?_) (fun b62 => ?_)
      · skip
        rw [nI_leI (by omega) (by omega)] at b62
        have hk2 : nC = n := by omega
        subst hk2
        refine v_join 135 (fun z => z = b2c (cb_ (ch_ h sN nC nW thn gn sn en k).1 (ch_ h sN nC nW thn gn sn en k).2 (co_ (ct_ h) k nC) k)) (fun z hz => ?_) (fun hj135 => ?_)
        · skip
          subst hz
          refine v_istore dX4_cheapest_135 (by decide) ?_
          refine v_iload dX4_cheapest_137 rfl ?_
          refine v_if_eq (tgt := 167) dX4_cheapest_139 (by decide) (fun b139 => ?_) (fun b139 => ?_)
          · skip
            rw [b2c_0] at b139
            have hq : ch_ h sN nC nW thn gn sn en (k + 1) = ch_ h sN nC nW thn gn sn en k := by rw [ch_s]; exact cf_f (fun z => b139 z.1)
            have hnr := hr
            refine v_iinc dX4_cheapest_167 rfl (by first | with_reducible exact nI_inc _ | exact rfl) (by decide) ?_
            refine v_goto (tgt := 39) dX4_cheapest_170 (by decide) ?_
            refine v_loc2 (by repeat' (first | with_reducible exact lsub_n | with_reducible refine lsub_c ?_ ?_ | with_reducible refine lk_hit ?_ | with_reducible refine lk_miss (by decide) ?_ ?_ | (first | exact rfl | (rw [hq]; done) | (rw [hq]; exact rfl)))) (IH (k + 1) _ ⟨by omega, hnr⟩ (by omega))
          · skip
            rw [b2c_n0] at b139
            refine v_aload_n dX4_cheapest_142 rfl rfl ?_
            refine v_iload dX4_cheapest_143 rfl ?_
            refine v_iload_n dX4_cheapest_145 rfl rfl ?_
            refine v_iload_n dX4_cheapest_146 rfl rfl ?_
            refine v_iload_n dX4_cheapest_147 rfl rfl ?_
            refine v_iload dX4_cheapest_148 rfl ?_
            refine v_zV mtX4_doesClose q2162 q2164 qs113 rfl (by decide) dX4_cheapest_150 (c_X4_doesClose (th := thn) (g := gn) (s := sn) (e := en) (fx_MS hS0 hr) (fx_WX (WX_th hW) hr) _ (by rw [fx_33 hr, th_33]; exact hthn) (by omega) hse (by omega)) (mK_obj hm) (by decide) (fun r150 h150 q150 z150 => ?_)
            obtain ⟨rfl, hfx3⟩ := q150
            rw [fx_33 hr, th_33, fx_ct hr, th_ct, propext (dc_fx hr), propext dc_th]
            refine v_if_ne (tgt := 159) dX4_cheapest_153 (by decide) (fun b153 => ?_) (fun b153 => ?_)
            · skip
              rw [b2c_n0] at b153
              have hq : ch_ h sN nC nW thn gn sn en (k + 1) = (nI k, co_ (ct_ h) k nC) := by rw [ch_s]; exact cf_t ⟨b139, b153⟩
              have hnr := fx_tr hr hfx3
              refine v_iload dX4_cheapest_159 rfl ?_
              refine v_istore dX4_cheapest_161 (by decide) ?_
              refine v_iload dX4_cheapest_163 rfl ?_
              refine v_istore dX4_cheapest_165 (by decide) ?_
              refine v_iinc dX4_cheapest_167 rfl (by first | with_reducible exact nI_inc _ | exact rfl) (by decide) ?_
              refine v_goto (tgt := 39) dX4_cheapest_170 (by decide) ?_
              refine v_loc2 (by repeat' (first | with_reducible exact lsub_n | with_reducible refine lsub_c ?_ ?_ | with_reducible refine lk_hit ?_ | with_reducible refine lk_miss (by decide) ?_ ?_ | (first | exact rfl | (rw [hq]; done) | (rw [hq]; exact rfl)))) (IH (k + 1) _ ⟨by omega, hnr⟩ (by omega))
            · skip
              rw [b2c_0] at b153
              have hq : ch_ h sN nC nW thn gn sn en (k + 1) = ch_ h sN nC nW thn gn sn en k := by rw [ch_s]; exact cf_f (fun z => b153 z.2)
              have hnr := fx_tr hr hfx3
              refine v_goto (tgt := 167) dX4_cheapest_156 (by decide) ?_
              refine v_iinc dX4_cheapest_167 rfl (by first | with_reducible exact nI_inc _ | exact rfl) (by decide) ?_
              refine v_goto (tgt := 39) dX4_cheapest_170 (by decide) ?_
              refine v_loc2 (by repeat' (first | with_reducible exact lsub_n | with_reducible refine lsub_c ?_ ?_ | with_reducible refine lk_hit ?_ | with_reducible refine lk_miss (by decide) ?_ ?_ | (first | exact rfl | (rw [hq]; done) | (rw [hq]; exact rfl)))) (IH (k + 1) _ ⟨by omega, hnr⟩ (by omega))
        · skip
          refine v_iload dX4_cheapest_97 rfl ?_
          refine v_iconst (v := (-1)) dX4_cheapest_99 (by decide) ?_
          refine v_icmp_eq (tgt := 130) dX4_cheapest_100 (by decide) (fun b100 => ?_) (fun b100 => ?_)
          · skip
            have hcb : cb_ (ch_ h sN nC nW thn gn sn en k).1 (ch_ h sN nC nW thn gn sn en k).2 (co_ (ct_ h) k nC) k := Or.inl b100
            refine v_iconst (v := 1) dX4_cheapest_130 (by decide) ?_
            refine v_goto (tgt := 135) dX4_cheapest_131 (by decide) ?_
            exact hj135 _ (by first | exact (b2c_t hcb).symm | exact (b2c_f hcb).symm)
          · skip
            obtain ⟨jb, hjb, ejb⟩ := (ch_in h sN nC nW thn gn sn en k).resolve_left b100
            refine v_iload dX4_cheapest_103 rfl ?_
            refine v_iload dX4_cheapest_105 rfl ?_
            refine v_icmp_lt (tgt := 130) dX4_cheapest_107 (by decide) (fun b107 => ?_) (fun b107 => ?_)
            · skip
              have hcb : cb_ (ch_ h sN nC nW thn gn sn en k).1 (ch_ h sN nC nW thn gn sn en k).2 (co_ (ct_ h) k nC) k := Or.inr (Or.inl b107)
              refine v_iconst (v := 1) dX4_cheapest_130 (by decide) ?_
              refine v_goto (tgt := 135) dX4_cheapest_131 (by decide) ?_
              exact hj135 _ (by first | exact (b2c_t hcb).symm | exact (b2c_f hcb).symm)
            · skip
              refine v_iload dX4_cheapest_110 rfl ?_
              refine v_iload dX4_cheapest_112 rfl ?_
              refine v_icmp_ne (tgt := 134) dX4_cheapest_114 (by decide) (fun b114 => ?_) (fun b114 => ?_)
              · skip
                have hcb : ¬ cb_ (ch_ h sN nC nW thn gn sn en k).1 (ch_ h sN nC nW thn gn sn en k).2 (co_ (ct_ h) k nC) k := fun z => z.elim b100 (fun y => y.elim b107 (fun u => b114 u.1))
                refine v_iconst (v := 0) dX4_cheapest_134 (by decide) ?_
                exact hj135 _ (by first | exact (b2c_t hcb).symm | exact (b2c_f hcb).symm)
              · skip
                refine v_iload dX4_cheapest_117 rfl ?_
                refine v_pS mtX4_ones q2097 q2098 dX4_cheapest_119 (c_X4_ones (n := k) (by omega)) (by decide) ?_
                refine v_iload dX4_cheapest_122 rfl ?_
                have hone : Ctr G 1 yX4_ones cX4_ones 3 (some .int) [.int (ch_ h sN nC nW thn gn sn en k).1] hh 0 0 (Pu hh (.int (nI (on_ jb)))) := by rw [ejb]; exact c_X4_ones (n := jb) (by omega)
                refine v_pS mtX4_ones q2097 q2098 dX4_cheapest_124 hone (by decide) ?_
                refine v_icmp_ge (tgt := 134) dX4_cheapest_127 (by decide) (fun b127 => ?_) (fun b127 => ?_)
                · skip
                  rw [nI_leI (by have := on_le k; have := on_le jb; omega) (by have := on_le k; have := on_le jb; omega)] at b127
                  have hcb : ¬ cb_ (ch_ h sN nC nW thn gn sn en k).1 (ch_ h sN nC nW thn gn sn en k).2 (co_ (ct_ h) k nC) k := fun z => z.elim b100 (fun y => y.elim b107 (fun u => by have u2 := u.2; rw [ejb, nI_clamp (by omega)] at u2; omega))
                  refine v_iconst (v := 0) dX4_cheapest_134 (by decide) ?_
                  exact hj135 _ (by first | exact (b2c_t hcb).symm | exact (b2c_f hcb).symm)
                · skip
                  rw [nI_leI (by have := on_le k; have := on_le jb; omega) (by have := on_le k; have := on_le jb; omega)] at b127
                  have hcb : cb_ (ch_ h sN nC nW thn gn sn en k).1 (ch_ h sN nC nW thn gn sn en k).2 (co_ (ct_ h) k nC) k := Or.inr (Or.inr ⟨b114, by rw [ejb, nI_clamp (by omega)]; omega⟩)
                  refine v_iconst (v := 1) dX4_cheapest_130 (by decide) ?_
                  refine v_goto (tgt := 135) dX4_cheapest_131 (by decide) ?_
                  exact hj135 _ (by first | exact (b2c_t hcb).symm | exact (b2c_f hcb).symm)
      · skip
        rw [nI_leI (by omega) (by omega)] at b62
        have hk2 : n < nC := by omega
        refine v_iload dX4_cheapest_65 rfl ?_
        refine v_join 88 (fun z => z = (if k.testBit n = true then ct_ h 5 n else 0)) (fun z hz => ?_) (fun hj88 => ?_)
        · skip
          subst hz
          refine v_iadd dX4_cheapest_88 ?_
          rw [← co_s]
          refine v_istore dX4_cheapest_89 (by decide) ?_
          refine v_iinc dX4_cheapest_91 rfl (by first | with_reducible exact nI_inc _ | exact rfl) (by decide) ?_
          refine v_goto (tgt := 56) dX4_cheapest_94 (by decide) ?_
          refine v_loc2 (by repeat' (first | with_reducible exact lsub_n | with_reducible refine lsub_c ?_ ?_ | with_reducible refine lk_hit ?_ | with_reducible refine lk_miss (by decide) ?_ ?_ | exact rfl)) (IHj (n + 1) (by omega) (by omega))
        · skip
          refine v_iload dX4_cheapest_67 rfl ?_
          refine v_iload dX4_cheapest_69 rfl ?_
          refine v_pS mtX4_has q1859 q1860 dX4_cheapest_71 (c_X4_has _ _) (by decide) ?_
          refine v_if_eq (tgt := 87) dX4_cheapest_74 (by decide) (fun b74 => ?_) (fun b74 => ?_)
          · skip
            rw [b2i_0, has_bit (by omega) (by omega)] at b74
            refine v_iconst (v := 0) dX4_cheapest_87 (by decide) ?_
            exact hj88 _ (by first | rw [if_pos b74] | rw [if_neg b74])
          · skip
            rw [b2i_n0, has_bit (by omega) (by omega)] at b74
            refine v_aload_n dX4_cheapest_77 rfl rfl ?_
            refine v_getR fX4_100 dX4_cheapest_78 (mK_obj hm) (mR_controlCost hm) ?_ fcA_I
            refine v_iload dX4_cheapest_81 rfl ?_
            refine v_iald dX4_cheapest_83 (mK_controlCost hm) rfl (by first | assumption | omega) ?_
            rw [hr.2.2.2.2.1 268 (Or.inr (by decide)) (by decide), th_A (by decide), show hp_I h 268 n = ct_ h 5 n from rfl]
            refine v_goto (tgt := 88) dX4_cheapest_84 (by decide) ?_
            exact hj88 _ (by first | rw [if_pos b74] | rw [if_neg b74])
  · skip
    refine v_cut 28 (¬ (tsk_ h th g s e ∧ (0 ≤ x ∧ x ≤ 1))) (fun hz28 => ?_) (fun hc28 => ?_)
    · skip
      refine v_iconst (v := (-1)) dX4_cheapest_28 (by decide) ?_
      exact v_reti dX4_cheapest_29 rfl (Pf_i hpt (by unfold sp_cheapest; rw [cf_f hz28]))
    · skip
      refine v_aload_n dX4_cheapest_5 rfl rfl ?_
      refine v_iload_n dX4_cheapest_6 rfl rfl ?_
      refine v_iload_n dX4_cheapest_7 rfl rfl ?_
      refine v_iload_n dX4_cheapest_8 rfl rfl ?_
      refine v_iload dX4_cheapest_9 rfl ?_
      refine v_pV mtX4_isTask q2000 q2002 qs85 rfl (by decide) dX4_cheapest_11 (c_X4_isTask hm _ _ _ _) (mK_obj hm) (by decide) ?_
      refine v_if_eq (tgt := 28) dX4_cheapest_14 (by decide) (fun b14 => ?_) (fun b14 => ?_)
      · skip
        exact hc28 (by unfold tsk_; (try simp only [b2i_0, b2i_n0] at *); (try simp only [th_4, th_33] at *); grind)
      · skip
        refine v_iload dX4_cheapest_17 rfl ?_
        refine v_i2l dX4_cheapest_19 ?_
        refine v_lconst (v := (0 : Int32).toInt64) dX4_cheapest_20 (by decide) ?_
        refine v_lconst (v := (1 : Int32).toInt64) dX4_cheapest_21 (by decide) ?_
        refine v_pS mtX4_within q1790 q1791 dX4_cheapest_22 (c_X4_within _ _ _) (by decide) ?_
        refine v_if_ne (tgt := 30) dX4_cheapest_25 (by decide) (fun b25 => ?_) (fun b25 => ?_)
        · skip
          exact hc30 (by unfold tsk_; (try simp only [b2i_0, b2i_n0] at *); (try simp only [th_4, th_33] at *); grind)
        · skip
          exact hc28 (by unfold tsk_; (try simp only [b2i_0, b2i_n0] at *); (try simp only [th_4, th_33] at *); grind)

