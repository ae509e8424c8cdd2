set_option maxRecDepth 100000
theorem at24 {w : Int32} (h : 0 ≤ w ∧ w ≤ 5) (h0 : ¬ w = 0) (h1 : ¬ (w = 1 ∨ w = 5)) : 2 ≤ w ∧ w ≤ 4 := by
  obtain ⟨k, hk, rfl⟩ := nI_rngE (n := 5) h (by decide)
  rcases (show k = 0 ∨ k = 1 ∨ k = 2 ∨ k = 3 ∨ k = 4 ∨ k = 5 by omega) with rfl | rfl | rfl | rfl | rfl | rfl
  · exact absurd rfl h0
  · exact absurd (Or.inl rfl) h1
  · decide
  · decide
  · decide
  · exact absurd (Or.inr rfl) h1
theorem c_X0_at {G : Gv} {h : AH} {b nC sN : Nat} {A : Nat → Int32} {C : Nat → Nat → Int32} (hq : XQ_ h b A C nC sN 0) (w x s : Int32) : Ctr G 8 yX0_at cX0_at 4 (some .int) [.ref 30, .int w, .int x, .int s] h 0 0 (Pu h (.int (an_at A C nC sN w x s))) := by
  refine ctr_of (own := RX0) (nm := "at") (by decide) (Nat.le_of_ble_eq_true rfl) ?_
  have hq9 := hq
  obtain ⟨hX, hS, ⟨DC, cC, fC, hCA, hCE⟩, hv, hc⟩ := hq9
  have h39 := sv_s hv
  refine v_cut 53 ((0 ≤ s ∧ s ≤ 99) ∧ (w = 0 ∨ ((w = 1 ∨ w = 5) ∧ 0 ≤ x ∧ x < nI sN) ∨ ((2 ≤ w ∧ w ≤ 4) ∧ 0 ≤ x ∧ x < 2 * nI sN))) (fun hz53 => ?_) (fun hc53 => ?_)
  · skip
    obtain ⟨sn, hsn, rfl⟩ := nI_rngE (n := 99) hz53.1 (by decide)
    have hs9 := hz53.1
    refine v_iload_n dX0_at_53 rfl rfl ?_
    by_cases hsw : 0 ≤ w ∧ w ≤ nI 4
    · skip
      obtain ⟨ksw, hk, rfl⟩ := nI_rngE hsw (by decide)
      rcases (show ksw = 0 ∨ ksw = 1 ∨ ksw = 2 ∨ ksw = 3 ∨ ksw = 4 by omega) with rfl | rfl | rfl | rfl | rfl
      · refine v_tableIn (tgt := 88) (off := 34) dX0_at_54 (by decide) (by decide) (by decide) (by decide) ?_
        refine v_aload_n dX0_at_88 rfl rfl ?_
        refine v_iload_n dX0_at_89 rfl rfl ?_
        refine v_pV mtX0_lightAt q714 q716 qs14 rfl (by decide) dX0_at_90 (c_X0_lightAt hq ?_) hX.1 (by first | decide | omega) ?_
        · first | assumption | omega
        refine v_reti dX0_at_93 rfl (Pu_i ?_)
        unfold an_at; rw [cf_f (fun z => z ⟨hs9, by decide⟩), cf_t (show nI 0 = 0 from rfl), nI_clamp (by omega), li_0]
      · refine v_tableIn (tgt := 94) (off := 40) dX0_at_54 (by decide) (by decide) (by decide) (by decide) ?_
        have hp : 0 ≤ x ∧ x < nI sN := by
          rcases hz53.2 with z | z | z
          · exact absurd z (by decide)
          · exact z.2
          · exact absurd z.1 (by decide)
        obtain ⟨xn, hxn, rfl⟩ := nI_rng hp (by omega)
        refine v_aload_n dX0_at_94 rfl rfl ?_
        refine v_iload_n dX0_at_95 rfl rfl ?_
        refine v_iload_n dX0_at_96 rfl rfl ?_
        refine v_pV mtX0_eyesOf q728 q730 qs15 rfl (by decide) dX0_at_97 (c_X0_eyesOf hq ?_ ?_) hX.1 (by first | decide | omega) ?_
        · omega
        · omega
        refine v_reti dX0_at_100 rfl (Pu_i ?_)
        unfold an_at; rw [cf_f (fun z => z ⟨hs9, by decide⟩), cf_f (by decide), cf_t (show nI 1 = 1 ∨ nI 1 = 5 from Or.inl rfl), cf_f (fun z => z hp), cf_t (show nI 1 = 1 from rfl), nI_clamp (by omega), nI_clamp (by omega)]
      · refine v_tableIn (tgt := 101) (off := 47) dX0_at_54 (by decide) (by decide) (by decide) (by decide) ?_
        have hp : 0 ≤ x ∧ x < 2 * nI sN := by
          rcases hz53.2 with z | z | z
          · exact absurd z (by decide)
          · exact absurd z.1 (by decide)
          · exact z.2
        have hp8 := hp
        rw [nI_2] at hp8
        obtain ⟨xn, hxn, rfl⟩ := nI_rng hp8 (by omega)
        refine v_aload_n dX0_at_101 rfl rfl ?_
        refine v_iload_n dX0_at_102 rfl rfl ?_
        refine v_iload_n dX0_at_103 rfl rfl ?_
        refine v_pV mtX0_isFree q627 q629 qs11 rfl (by decide) dX0_at_104 (c_X0_isFree hq ?_ ?_) hX.1 (by first | decide | omega) ?_
        · omega
        · omega
        refine v_if_eq (tgt := 114) dX0_at_107 (by decide) (fun b107 => ?_) (fun b107 => ?_)
        · skip
          refine v_iconst (v := 0) dX0_at_114 (by decide) ?_
          refine v_reti dX0_at_115 rfl (Pu_i ?_)
          unfold an_at; rw [cf_f (fun z => z ⟨hs9, by decide⟩), cf_f (by decide), cf_f (by decide), cf_f (fun z => z hp), cf_t (show nI 2 = 2 from rfl), nI_clamp (by omega), nI_clamp (by omega)]
          first | exact (b2c_t (b2c_n0.mp b107)).symm | exact (b2c_f (b2c_0.mp b107)).symm
        · skip
          refine v_iconst (v := 1) dX0_at_110 (by decide) ?_
          refine v_goto (tgt := 115) dX0_at_111 (by decide) ?_
          refine v_reti dX0_at_115 rfl (Pu_i ?_)
          unfold an_at; rw [cf_f (fun z => z ⟨hs9, by decide⟩), cf_f (by decide), cf_f (by decide), cf_f (fun z => z hp), cf_t (show nI 2 = 2 from rfl), nI_clamp (by omega), nI_clamp (by omega)]
          first | exact (b2c_t (b2c_n0.mp b107)).symm | exact (b2c_f (b2c_0.mp b107)).symm
      · refine v_tableIn (tgt := 116) (off := 62) dX0_at_54 (by decide) (by decide) (by decide) (by decide) ?_
        have hp : 0 ≤ x ∧ x < 2 * nI sN := by
          rcases hz53.2 with z | z | z
          · exact absurd z (by decide)
          · exact absurd z.1 (by decide)
          · exact z.2
        have hp8 := hp
        rw [nI_2] at hp8
        obtain ⟨xn, hxn, rfl⟩ := nI_rng hp8 (by omega)
        refine v_aload_n dX0_at_116 rfl rfl ?_
        refine v_getR fX0_32 dX0_at_117 hX.1 hX.2.2.1 ?_
        refine v_getR fX0_153 dX0_at_120 (si_K hS) (si_Rseems hS) ?_
        refine v_iload_n dX0_at_123 rfl rfl ?_
        refine v_aald (t := 4) dX0_at_124 (si_seems hS) (by decide) rfl (by first | assumption | omega) (si_seemsV hS (by first | assumption | omega)) ?_ (by decide)
        refine v_iload_n dX0_at_125 rfl rfl ?_
        refine v_iald dX0_at_126 (si_seemsK hS _ (by first | assumption | omega)) rfl (by first | assumption | omega) ?_
        rw [si_Dseems hS _ (show xn < 18 by omega) _ (by omega)]
        refine v_reti dX0_at_127 rfl (Pu_i ?_)
        unfold an_at; rw [cf_f (fun z => z ⟨hs9, by decide⟩), cf_f (by decide), cf_f (by decide), cf_f (fun z => z hp), cf_f (by decide), cf_t (show nI 3 = 3 from rfl), nI_clamp (by omega), nI_clamp (by omega)]
      · refine v_tableIn (tgt := 128) (off := 74) dX0_at_54 (by decide) (by decide) (by decide) (by decide) ?_
        have hp : 0 ≤ x ∧ x < 2 * nI sN := by
          rcases hz53.2 with z | z | z
          · exact absurd z (by decide)
          · exact absurd z.1 (by decide)
          · exact z.2
        have hp8 := hp
        rw [nI_2] at hp8
        obtain ⟨xn, hxn, rfl⟩ := nI_rng hp8 (by omega)
        refine v_aload_n dX0_at_128 rfl rfl ?_
        refine v_getR fX0_32 dX0_at_129 hX.1 hX.2.2.1 ?_
        refine v_getR fX0_156 dX0_at_132 (si_K hS) (si_Rtruly hS) ?_
        refine v_iload_n dX0_at_135 rfl rfl ?_
        refine v_aald (t := 4) dX0_at_136 (si_truly hS) (by decide) rfl (by first | assumption | omega) (si_trulyV hS (by first | assumption | omega)) ?_ (by decide)
        refine v_iload_n dX0_at_137 rfl rfl ?_
        refine v_iald dX0_at_138 (si_trulyK hS _ (by first | assumption | omega)) rfl (by first | assumption | omega) ?_
        rw [si_Dtruly hS _ (show xn < 18 by omega) _ (by omega)]
        refine v_reti dX0_at_139 rfl (Pu_i ?_)
        unfold an_at; rw [cf_f (fun z => z ⟨hs9, by decide⟩), cf_f (by decide), cf_f (by decide), cf_f (fun z => z hp), cf_f (by decide), cf_f (by decide), nI_clamp (by omega), nI_clamp (by omega)]
    · skip
      refine v_tableOut (tgt := 140) dX0_at_54 (sw_out hsw (by decide)) (by decide) ?_
      have hw5 : w = 5 ∧ 0 ≤ x ∧ x < nI sN := by
        rcases hz53.2 with z | ⟨z | z, y⟩ | ⟨⟨z1, z2⟩, -⟩
        · exact absurd ⟨by rw [z]; decide, by rw [z]; decide⟩ hsw
        · exact absurd ⟨by rw [z]; decide, by rw [z]; decide⟩ hsw
        · exact ⟨z, y⟩
        · exact absurd ⟨Int32.le_trans (by decide) z1, z2⟩ hsw
      obtain ⟨rfl, hp⟩ := hw5
      obtain ⟨xn, hxn, rfl⟩ := nI_rng hp (by omega)
      refine v_aload_n dX0_at_140 rfl rfl ?_
      refine v_getR fX0_32 dX0_at_141 hX.1 hX.2.2.1 ?_
      refine v_iload_n dX0_at_144 rfl rfl ?_
      refine v_iload_n dX0_at_145 rfl rfl ?_
      refine v_zV mtX1_led q745 q746 q747 rfl (by decide) dX0_at_146 (c_X1_led (p := xn) (t := sn) hS hv (by omega) (by omega)) (si_K hS) (by decide) (fun r20 h20 q20 z20 => ?_)
      obtain ⟨rfl, hled⟩ := q20
      rcases hled with ⟨e, rfl⟩ | ⟨q, j, hj, e, hE, rfl⟩
      · skip
        refine v_ifnonnullN dX0_at_149 ?_
        refine v_iconst (v := 0) dX0_at_152 (by decide) ?_
        refine v_goto (tgt := 157) dX0_at_153 (by decide) ?_
        refine v_reti dX0_at_157 rfl (Pu_i ?_)
        unfold an_at; rw [cf_f (fun z => z ⟨hs9, by decide⟩), cf_f (by decide), cf_t (Or.inr rfl), cf_f (fun z => z hp), cf_f (by decide), nI_clamp (by omega), nI_clamp (by omega)]
        exact (b2c_f (fun z => z e)).symm
      · skip
        refine v_ifnonnull (tgt := 156) dX0_at_149 (by decide) ?_
        refine v_iconst (v := 1) dX0_at_156 (by decide) ?_
        refine v_reti dX0_at_157 rfl (Pu_i ?_)
        unfold an_at; rw [cf_f (fun z => z ⟨hs9, by decide⟩), cf_f (by decide), cf_t (Or.inr rfl), cf_f (fun z => z hp), cf_f (by decide), nI_clamp (by omega), nI_clamp (by omega)]
        exact (b2c_t (fun z => by rw [e] at z; have := (sv_led hv).1; exact nI_ne1 (by omega) z)).symm
  · skip
    refine v_cut 51 (¬ ((0 ≤ s ∧ s ≤ 99) ∧ (w = 0 ∨ ((w = 1 ∨ w = 5) ∧ 0 ≤ x ∧ x < nI sN) ∨ ((2 ≤ w ∧ w ≤ 4) ∧ 0 ≤ x ∧ x < 2 * nI sN)))) (fun hz51 => ?_) (fun hc51 => ?_)
    · skip
      refine v_iconst (v := (-1)) dX0_at_51 (by decide) ?_
      refine v_reti dX0_at_52 rfl (Pu_i ?_)
      unfold an_at
      by_cases hq1 : (0 ≤ s ∧ s ≤ 99) ∧ (0 ≤ w ∧ w ≤ 5)
      · rw [cf_f (fun z => z hq1)]
        have hw0 : ¬ w = 0 := fun z => hz51 ⟨hq1.1, Or.inl z⟩
        rw [cf_f hw0]
        by_cases hq2 : w = 1 ∨ w = 5
        · rw [cf_t hq2, cf_t (fun z => hz51 ⟨hq1.1, Or.inr (Or.inl ⟨hq2, z⟩)⟩)]
        · rw [cf_f hq2, cf_t (fun z => hz51 ⟨hq1.1, Or.inr (Or.inr ⟨at24 hq1.2 hw0 hq2, z⟩)⟩)]
      · rw [cf_t hq1]
    · skip
      refine v_iload_n dX0_at_0 rfl rfl ?_
      refine v_pS mtX0_isSecond q461 q462 dX0_at_1 (c_X0_isSecond _) (by first | decide | omega) ?_
      refine v_if_eq (tgt := 51) dX0_at_4 (by decide) (fun b4 => ?_) (fun b4 => ?_)
      · skip
        exact hc51 (by (try simp only [b2i_0, b2i_n0, b2c_0, b2c_n0] at *); grind)
      · skip
        refine v_iload_n dX0_at_7 rfl rfl ?_
        refine v_if_eq (tgt := 53) dX0_at_8 (by decide) (fun b8 => ?_) (fun b8 => ?_)
        · skip
          exact hc53 (by (try simp only [b2i_0, b2i_n0, b2c_0, b2c_n0] at *); grind)
        · skip
          refine v_iload_n dX0_at_11 rfl rfl ?_
          refine v_iconst (v := 1) dX0_at_12 (by decide) ?_
          refine v_icmp_eq (tgt := 21) dX0_at_13 (by decide) (fun b13 => ?_) (fun b13 => ?_)
          · skip
            refine v_aload_n dX0_at_21 rfl rfl ?_
            refine v_iload_n dX0_at_22 rfl rfl ?_
            refine v_pV mtX0_isPerson q450 q452 qs1 rfl (by decide) dX0_at_23 (c_X0_isPerson hX h39.2 _) hX.1 (by first | decide | omega) ?_
            refine v_if_ne (tgt := 53) dX0_at_26 (by decide) (fun b26 => ?_) (fun b26 => ?_)
            · skip
              exact hc53 (by (try simp only [b2i_0, b2i_n0, b2c_0, b2c_n0] at *); grind)
            · skip
              refine v_iload_n dX0_at_29 rfl rfl ?_
              refine v_i2l dX0_at_30 ?_
              refine v_ldc2 (v := (2 : Int32).toInt64) q695 dX0_at_31 (by decide) ?_
              refine v_ldc2 (v := (4 : Int32).toInt64) q713 dX0_at_34 (by decide) ?_
              refine v_pS mtX0_in q162 q163 dX0_at_37 (c_X0_in _ _ _) (by first | decide | omega) ?_
              refine v_if_eq (tgt := 51) dX0_at_40 (by decide) (fun b40 => ?_) (fun b40 => ?_)
              · skip
                exact hc51 (by (try simp only [b2i_0, b2i_n0, b2c_0, b2c_n0] at *); grind)
              · skip
                refine v_aload_n dX0_at_43 rfl rfl ?_
                refine v_iload_n dX0_at_44 rfl rfl ?_
                refine v_pV mtX0_isHand q581 q583 qs7 rfl (by decide) dX0_at_45 (c_X0_isHand hX h39.2 _) hX.1 (by first | decide | omega) ?_
                refine v_if_ne (tgt := 53) dX0_at_48 (by decide) (fun b48 => ?_) (fun b48 => ?_)
                · skip
                  exact hc53 (by (try simp only [b2i_0, b2i_n0, b2c_0, b2c_n0] at *); grind)
                · skip
                  exact hc51 (by (try simp only [b2i_0, b2i_n0, b2c_0, b2c_n0] at *); grind)
          · skip
            refine v_iload_n dX0_at_16 rfl rfl ?_
            refine v_iconst (v := 5) dX0_at_17 (by decide) ?_
            refine v_icmp_ne (tgt := 29) dX0_at_18 (by decide) (fun b18 => ?_) (fun b18 => ?_)
            · skip
              refine v_iload_n dX0_at_29 rfl rfl ?_
              refine v_i2l dX0_at_30 ?_
              refine v_ldc2 (v := (2 : Int32).toInt64) q695 dX0_at_31 (by decide) ?_
              refine v_ldc2 (v := (4 : Int32).toInt64) q713 dX0_at_34 (by decide) ?_
              refine v_pS mtX0_in q162 q163 dX0_at_37 (c_X0_in _ _ _) (by first | decide | omega) ?_
              refine v_if_eq (tgt := 51) dX0_at_40 (by decide) (fun b40 => ?_) (fun b40 => ?_)
              · skip
                exact hc51 (by (try simp only [b2i_0, b2i_n0, b2c_0, b2c_n0] at *); grind)
              · skip
                refine v_aload_n dX0_at_43 rfl rfl ?_
                refine v_iload_n dX0_at_44 rfl rfl ?_
                refine v_pV mtX0_isHand q581 q583 qs7 rfl (by decide) dX0_at_45 (c_X0_isHand hX h39.2 _) hX.1 (by first | decide | omega) ?_
                refine v_if_ne (tgt := 53) dX0_at_48 (by decide) (fun b48 => ?_) (fun b48 => ?_)
                · skip
                  exact hc53 (by (try simp only [b2i_0, b2i_n0, b2c_0, b2c_n0] at *); grind)
                · skip
                  exact hc51 (by (try simp only [b2i_0, b2i_n0, b2c_0, b2c_n0] at *); grind)
            · skip
              refine v_aload_n dX0_at_21 rfl rfl ?_
              refine v_iload_n dX0_at_22 rfl rfl ?_
              refine v_pV mtX0_isPerson q450 q452 qs1 rfl (by decide) dX0_at_23 (c_X0_isPerson hX h39.2 _) hX.1 (by first | decide | omega) ?_
              refine v_if_ne (tgt := 53) dX0_at_26 (by decide) (fun b26 => ?_) (fun b26 => ?_)
              · skip
                exact hc53 (by (try simp only [b2i_0, b2i_n0, b2c_0, b2c_n0] at *); grind)
              · skip
                refine v_iload_n dX0_at_29 rfl rfl ?_
                refine v_i2l dX0_at_30 ?_
                refine v_ldc2 (v := (2 : Int32).toInt64) q695 dX0_at_31 (by decide) ?_
                refine v_ldc2 (v := (4 : Int32).toInt64) q713 dX0_at_34 (by decide) ?_
                refine v_pS mtX0_in q162 q163 dX0_at_37 (c_X0_in _ _ _) (by first | decide | omega) ?_
                refine v_if_eq (tgt := 51) dX0_at_40 (by decide) (fun b40 => ?_) (fun b40 => ?_)
                · skip
                  exact hc51 (by (try simp only [b2i_0, b2i_n0, b2c_0, b2c_n0] at *); grind)
                · skip
                  refine v_aload_n dX0_at_43 rfl rfl ?_
                  refine v_iload_n dX0_at_44 rfl rfl ?_
                  refine v_pV mtX0_isHand q581 q583 qs7 rfl (by decide) dX0_at_45 (c_X0_isHand hX h39.2 _) hX.1 (by first | decide | omega) ?_
                  refine v_if_ne (tgt := 53) dX0_at_48 (by decide) (fun b48 => ?_) (fun b48 => ?_)
                  · skip
                    exact hc53 (by (try simp only [b2i_0, b2i_n0, b2c_0, b2c_n0] at *); grind)
                  · skip
                    exact hc51 (by (try simp only [b2i_0, b2i_n0, b2c_0, b2c_n0] at *); grind)

theorem gb_x {U : Nat → Prop} {k : Nat} (hk : k < 1000) : (if nI (gb_ U k) < nI (gr_ U (k + 1)) then nI (gr_ U (k + 1)) else nI (gb_ U k)) = nI (gb_ U (k + 1)) := by
  have h1 := gb_le U k
  have h2 := gr_le U (k + 1)
  rw [gb_s]
  by_cases z : gr_ U (k + 1) ≤ gb_ U k
  · rw [cf_t z, if_neg (by rw [nI_ltI (by omega) (by omega)]; omega)]
  · rw [cf_f z, if_pos (by rw [nI_ltI (by omega) (by omega)]; omega)]
set_option maxHeartbeats 1000000 in
theorem c_X0_gap {G : Gv} {h : AH} {b nC sN : Nat} {A : Nat → Int32} {C : Nat → Nat → Int32} (hq : XQ_ h b A C nC sN 0) (a tr x : Int32) : Ctr G 10 yX0_gap cX0_gap 11 (some .int) [.ref 30, .int a, .int tr, .int x] h 0 0 (Pu h (.int (an_gap A C nC sN a tr x))) := by
  refine ctr_of (own := RX0) (nm := "gap") (by decide) (Nat.le_of_ble_eq_true rfl) ?_
  have hq9 := hq
  obtain ⟨hX, hS, ⟨DC, cC, fC, hCA, hCE⟩, hv, hc⟩ := hq9
  have h39 := sv_s hv
  refine v_cut 22 ((0 ≤ a ∧ a < 2 * nI sN) ∧ (0 ≤ x ∧ x ≤ 3)) (fun hz22 => ?_) (fun hc22 => ?_)
  · skip
    have hz9 := hz22
    rw [nI_2] at hz9
    obtain ⟨an, han, rfl⟩ := nI_rng hz9.1 (by omega)
    refine v_iconst (v := 0) dX0_gap_22 (by decide) ?_
    refine v_istore dX0_gap_23 (by decide) ?_
    refine v_iconst (v := (-1)) dX0_gap_25 (by decide) ?_
    refine v_istore dX0_gap_26 (by decide) ?_
    refine v_iconst (v := 0) dX0_gap_28 (by decide) ?_
    refine v_istore dX0_gap_29 (by decide) ?_
    refine v_iconst (v := 0) dX0_gap_31 (by decide) ?_
    refine v_istore dX0_gap_32 (by decide) ?_
    refine v_iconst (v := 0) dX0_gap_34 (by decide) ?_
    refine v_istore dX0_gap_35 (by decide) ?_
    refine v_iconst (v := 0) dX0_gap_37 (by decide) ?_
    refine v_istore dX0_gap_38 (by decide) ?_
    refine v_loc2 (by repeat' (first | with_reducible exact lsub_n | with_reducible refine lsub_c ?_ ?_ | with_reducible refine lk_hit ?_ | with_reducible refine lk_miss (by decide) ?_ ?_ | (first | exact rfl | (simp only [gc_z, gf_z, gr_z, gb_z]; exact rfl)))) (v_lp1 (fun (k : Nat) => 100 - k) (fun (k : Nat) => k ≤ 100) (fun (k : Nat) => [(0, .ref 30), (1, .int (nI an)), (2, .int tr), (3, .int x), (4, .int (nI (gc_ (fun t => vo_ A C nC sN 0 (cf_ (tr = 0) 1070 2870) an t = 0) k))), (5, .int (gf_ (fun t => vo_ A C nC sN 0 (cf_ (tr = 0) 1070 2870) an t = 0) k)), (6, .int (nI (gr_ (fun t => vo_ A C nC sN 0 (cf_ (tr = 0) 1070 2870) an t = 0) k))), (7, .int (nI (gb_ (fun t => vo_ A C nC sN 0 (cf_ (tr = 0) 1070 2870) an t = 0) k))), (8, .int (nI (gc_ (fun t => vo_ A C nC sN 0 2870 an t = 0 ∧ ¬ vo_ A C nC sN 0 1070 an t = 0) k))), (9, .int (nI k))]) (fun _ => []) (fun (k : Nat) => h) ?_ 0 (Nat.zero_le _))
    intro k hI IH
    have hg1 := gc_le (fun t => vo_ A C nC sN 0 (cf_ (tr = 0) 1070 2870) an t = 0) k
    have hg2 := gr_le (fun t => vo_ A C nC sN 0 (cf_ (tr = 0) 1070 2870) an t = 0) k
    have hg3 := gr_le (fun t => vo_ A C nC sN 0 (cf_ (tr = 0) 1070 2870) an t = 0) (k + 1)
    have hg4 := gb_le (fun t => vo_ A C nC sN 0 (cf_ (tr = 0) 1070 2870) an t = 0) k
    refine v_iload dX0_gap_40 rfl ?_
    refine v_bipush (v := nI 100) dX0_gap_42 (by decide) ?_
    refine v_icmp_ge (tgt := 162) dX0_gap_44 (by decide) (fun b44 => ?_) (fun b44 => ?_)
    · skip
      rw [nI_leI (by omega) (by omega)] at b44
      have hk : 100 = k := by omega
      subst hk
      refine v_iload_n dX0_gap_162 rfl rfl ?_
      refine v_if_ne (tgt := 171) dX0_gap_163 (by decide) (fun b163 => ?_) (fun b163 => ?_)
      · skip
        refine v_iload_n dX0_gap_171 rfl rfl ?_
        refine v_iconst (v := nI 1) dX0_gap_172 (by decide) ?_
        refine v_icmp_ne (tgt := 181) dX0_gap_173 (by decide) (fun b173 => ?_) (fun b173 => ?_)
        · skip
          refine v_iload_n dX0_gap_181 rfl rfl ?_
          refine v_iconst (v := nI 2) dX0_gap_182 (by decide) ?_
          refine v_icmp_ne (tgt := 191) dX0_gap_183 (by decide) (fun b183 => ?_) (fun b183 => ?_)
          · skip
            refine v_iload dX0_gap_191 rfl ?_
            refine v_reti dX0_gap_193 rfl (Pu_i ?_)
            unfold an_gap
            rw [cf_t hz22, nI_clamp (by omega)]; (try rw [show (nI 1 : Int32) = 1 from rfl] at b173); (try rw [show (nI 2 : Int32) = 2 from rfl] at b183); first | (rw [cf_t b163]) | (rw [cf_f b163, cf_t b173]) | (rw [cf_f b163, cf_f b173, cf_t b183]) | (rw [cf_f b163, cf_f b173, cf_f b183])
          · skip
            refine v_iload dX0_gap_186 rfl ?_
            refine v_goto (tgt := 193) dX0_gap_188 (by decide) ?_
            refine v_reti dX0_gap_193 rfl (Pu_i ?_)
            unfold an_gap
            rw [cf_t hz22, nI_clamp (by omega)]; (try rw [show (nI 1 : Int32) = 1 from rfl] at b173); (try rw [show (nI 2 : Int32) = 2 from rfl] at b183); first | (rw [cf_t b163]) | (rw [cf_f b163, cf_t b173]) | (rw [cf_f b163, cf_f b173, cf_t b183]) | (rw [cf_f b163, cf_f b173, cf_f b183])
        · skip
          refine v_iload dX0_gap_176 rfl ?_
          refine v_goto (tgt := 193) dX0_gap_178 (by decide) ?_
          refine v_reti dX0_gap_193 rfl (Pu_i ?_)
          unfold an_gap
          rw [cf_t hz22, nI_clamp (by omega)]; (try rw [show (nI 1 : Int32) = 1 from rfl] at b173); (try rw [show (nI 2 : Int32) = 2 from rfl] at b183); first | (rw [cf_t b163]) | (rw [cf_f b163, cf_t b173]) | (rw [cf_f b163, cf_f b173, cf_t b183]) | (rw [cf_f b163, cf_f b173, cf_f b183])
      · skip
        refine v_iload dX0_gap_166 rfl ?_
        refine v_goto (tgt := 193) dX0_gap_168 (by decide) ?_
        refine v_reti dX0_gap_193 rfl (Pu_i ?_)
        unfold an_gap
        rw [cf_t hz22, nI_clamp (by omega)]; (try rw [show (nI 1 : Int32) = 1 from rfl] at b173); (try rw [show (nI 2 : Int32) = 2 from rfl] at b183); first | (rw [cf_t b163]) | (rw [cf_f b163, cf_t b173]) | (rw [cf_f b163, cf_f b173, cf_t b183]) | (rw [cf_f b163, cf_f b173, cf_f b183])
    · skip
      rw [nI_leI (by omega) (by omega)] at b44
      have hk : k < 100 := by omega
      refine v_join 63 (fun z => z = b2c ((fun t => vo_ A C nC sN 0 (cf_ (tr = 0) 1070 2870) an t = 0) k)) (fun z hz => ?_) (fun hj63 => ?_)
      · skip
        subst hz
        refine v_istore dX0_gap_63 (by decide) ?_
        refine v_iload dX0_gap_65 rfl ?_
        refine v_join 77 (fun z => z = b2c ((fun t => vo_ A C nC sN 0 (cf_ (tr = 0) 1070 2870) an t = 0) k)) (fun z hz => ?_) (fun hj77 => ?_)
        · skip
          subst hz
          refine v_iadd dX0_gap_77 ?_
          rw [gc_a]
          refine v_istore dX0_gap_78 (by decide) ?_
          refine v_join 98 (fun z => z = gf_ (fun t => vo_ A C nC sN 0 (cf_ (tr = 0) 1070 2870) an t = 0) (k + 1)) (fun z hz => ?_) (fun hj98 => ?_)
          · skip
            subst hz
            refine v_istore dX0_gap_98 (by decide) ?_
            refine v_join 113 (fun z => z = nI (gr_ (fun t => vo_ A C nC sN 0 (cf_ (tr = 0) 1070 2870) an t = 0) (k + 1))) (fun z hz => ?_) (fun hj113 => ?_)
            · skip
              subst hz
              refine v_istore dX0_gap_113 (by decide) ?_
              refine v_iload dX0_gap_115 rfl ?_
              refine v_iload dX0_gap_117 rfl ?_
              refine v_mmax q727 (by first | decide | omega) dX0_gap_119 ?_
              rw [gb_x (by omega)]
              refine v_istore dX0_gap_122 (by decide) ?_
              refine v_iload dX0_gap_124 rfl ?_
              refine v_join 153 (fun z => z = b2c ((fun t => vo_ A C nC sN 0 2870 an t = 0 ∧ ¬ vo_ A C nC sN 0 1070 an t = 0) k)) (fun z hz => ?_) (fun hj153 => ?_)
              · skip
                subst hz
                refine v_iadd dX0_gap_153 ?_
                rw [gc_a]
                refine v_istore dX0_gap_154 (by decide) ?_
                refine v_iinc dX0_gap_156 rfl (by first | with_reducible exact nI_inc _ | exact rfl) (by decide) ?_
                refine v_goto (tgt := 40) dX0_gap_159 (by decide) ?_
                refine v_loc2 (by repeat' (first | with_reducible exact lsub_n | with_reducible refine lsub_c ?_ ?_ | with_reducible refine lk_hit ?_ | with_reducible refine lk_miss (by decide) ?_ ?_ | exact rfl)) (IH (k + 1) (by omega) (by omega))
              · skip
                refine v_aload_n dX0_gap_126 rfl rfl ?_
                refine v_iload_n dX0_gap_127 rfl rfl ?_
                refine v_iload dX0_gap_128 rfl ?_
                refine v_iconst (v := nI 1) dX0_gap_130 (by decide) ?_
                refine v_pV mtX0_vouchers q757 q759 qs17 rfl (by decide) dX0_gap_131 (c_X0_vouchers (a := an) (t := k) (B := 2870) (tr := nI 1) hq (Or.inl ⟨by decide, rfl⟩) (by omega) (by omega)) hX.1 (by first | decide | omega) ?_
                refine v_if_ne (tgt := 152) dX0_gap_134 (by decide) (fun b134 => ?_) (fun b134 => ?_)
                · skip
                  rw [show (0 : Int32) = nI 0 from rfl, nI_eq (Nat.lt_trans (vo_lt h39.2) (by decide)) (by decide)] at b134
                  have hV2 := b134
                  refine v_iconst (v := 0) dX0_gap_152 (by decide) ?_
                  exact hj153 _ (by first | exact (b2c_t ⟨hV2, hV3⟩).symm | exact (b2c_f (fun z => hV2 z.1)).symm | exact (b2c_f (fun z => z.2 hV3)).symm)
                · skip
                  rw [show (0 : Int32) = nI 0 from rfl, nI_eq (Nat.lt_trans (vo_lt h39.2) (by decide)) (by decide)] at b134
                  have hV2 := b134
                  refine v_aload_n dX0_gap_137 rfl rfl ?_
                  refine v_iload_n dX0_gap_138 rfl rfl ?_
                  refine v_iload dX0_gap_139 rfl ?_
                  refine v_iconst (v := nI 0) dX0_gap_141 (by decide) ?_
                  refine v_pV mtX0_vouchers q757 q759 qs17 rfl (by decide) dX0_gap_142 (c_X0_vouchers (a := an) (t := k) (B := 1070) (tr := nI 0) hq (Or.inr ⟨rfl, rfl⟩) (by omega) (by omega)) hX.1 (by first | decide | omega) ?_
                  refine v_if_eq (tgt := 152) dX0_gap_145 (by decide) (fun b145 => ?_) (fun b145 => ?_)
                  · skip
                    rw [show (0 : Int32) = nI 0 from rfl, nI_eq (Nat.lt_trans (vo_lt h39.2) (by decide)) (by decide)] at b145
                    have hV3 := b145
                    refine v_iconst (v := 0) dX0_gap_152 (by decide) ?_
                    exact hj153 _ (by first | exact (b2c_t ⟨hV2, hV3⟩).symm | exact (b2c_f (fun z => hV2 z.1)).symm | exact (b2c_f (fun z => z.2 hV3)).symm)
                  · skip
                    rw [show (0 : Int32) = nI 0 from rfl, nI_eq (Nat.lt_trans (vo_lt h39.2) (by decide)) (by decide)] at b145
                    have hV3 := b145
                    refine v_iconst (v := 1) dX0_gap_148 (by decide) ?_
                    refine v_goto (tgt := 153) dX0_gap_149 (by decide) ?_
                    exact hj153 _ (by first | exact (b2c_t ⟨hV2, hV3⟩).symm | exact (b2c_f (fun z => hV2 z.1)).symm | exact (b2c_f (fun z => z.2 hV3)).symm)
            · skip
              refine v_iload dX0_gap_100 rfl ?_
              refine v_if_eq (tgt := 112) dX0_gap_102 (by decide) (fun b102 => ?_) (fun b102 => ?_)
              · skip
                refine v_iconst (v := 0) dX0_gap_112 (by decide) ?_
                exact hj113 _ (by rw [gr_s]; first | exact congrArg nI (cf_t (b2c_n0.mp b102)).symm | exact congrArg nI (cf_f (b2c_0.mp b102)).symm)
              · skip
                refine v_iload dX0_gap_105 rfl ?_
                refine v_iconst (v := 1) dX0_gap_107 (by decide) ?_
                refine v_iadd dX0_gap_108 ?_
                rw [nI_1]
                refine v_goto (tgt := 113) dX0_gap_109 (by decide) ?_
                exact hj113 _ (by rw [gr_s]; first | exact congrArg nI (cf_t (b2c_n0.mp b102)).symm | exact congrArg nI (cf_f (b2c_0.mp b102)).symm)
          · skip
            refine v_iload dX0_gap_80 rfl ?_
            refine v_if_eq (tgt := 96) dX0_gap_82 (by decide) (fun b82 => ?_) (fun b82 => ?_)
            · skip
              refine v_iload dX0_gap_96 rfl ?_
              exact hj98 _ (by rw [gf_s]; first | exact (cf_t ⟨b2c_n0.mp b82, b88⟩).symm | exact (cf_f (fun z => b2c_0.mp b82 z.1)).symm | exact (cf_f (fun z => b88 z.2)).symm)
            · skip
              refine v_iload dX0_gap_85 rfl ?_
              refine v_iconst (v := (-1)) dX0_gap_87 (by decide) ?_
              refine v_icmp_ne (tgt := 96) dX0_gap_88 (by decide) (fun b88 => ?_) (fun b88 => ?_)
              · skip
                refine v_iload dX0_gap_96 rfl ?_
                exact hj98 _ (by rw [gf_s]; first | exact (cf_t ⟨b2c_n0.mp b82, b88⟩).symm | exact (cf_f (fun z => b2c_0.mp b82 z.1)).symm | exact (cf_f (fun z => b88 z.2)).symm)
              · skip
                refine v_iload dX0_gap_91 rfl ?_
                refine v_goto (tgt := 98) dX0_gap_93 (by decide) ?_
                exact hj98 _ (by rw [gf_s]; first | exact (cf_t ⟨b2c_n0.mp b82, b88⟩).symm | exact (cf_f (fun z => b2c_0.mp b82 z.1)).symm | exact (cf_f (fun z => b88 z.2)).symm)
        · skip
          refine v_iload dX0_gap_67 rfl ?_
          refine v_if_eq (tgt := 76) dX0_gap_69 (by decide) (fun b69 => ?_) (fun b69 => ?_)
          · skip
            refine v_iconst (v := 0) dX0_gap_76 (by decide) ?_
            exact hj77 _ (by first | exact (b2c_f (b2c_0.mp b69)).symm | exact (b2c_t (b2c_n0.mp b69)).symm)
          · skip
            refine v_iconst (v := 1) dX0_gap_72 (by decide) ?_
            refine v_goto (tgt := 77) dX0_gap_73 (by decide) ?_
            exact hj77 _ (by first | exact (b2c_f (b2c_0.mp b69)).symm | exact (b2c_t (b2c_n0.mp b69)).symm)
      · skip
        refine v_aload_n dX0_gap_47 rfl rfl ?_
        refine v_iload_n dX0_gap_48 rfl rfl ?_
        refine v_iload dX0_gap_49 rfl ?_
        refine v_iload_n dX0_gap_51 rfl rfl ?_
        refine v_pV mtX0_vouchers q757 q759 qs17 rfl (by decide) dX0_gap_52 (c_X0_vouchers (a := an) (t := k) (B := cf_ (tr = 0) 1070 2870) hq (tr_B tr) (by omega) (by omega)) hX.1 (by first | decide | omega) ?_
        refine v_if_ne (tgt := 62) dX0_gap_55 (by decide) (fun b55 => ?_) (fun b55 => ?_)
        · skip
          rw [show (0 : Int32) = nI 0 from rfl, nI_eq (Nat.lt_trans (vo_lt h39.2) (by decide)) (by decide)] at b55
          have hV0 := b55
          refine v_iconst (v := 0) dX0_gap_62 (by decide) ?_
          exact hj63 _ (by first | exact (b2c_t hV0).symm | exact (b2c_f hV0).symm)
        · skip
          rw [show (0 : Int32) = nI 0 from rfl, nI_eq (Nat.lt_trans (vo_lt h39.2) (by decide)) (by decide)] at b55
          have hV0 := b55
          refine v_iconst (v := 1) dX0_gap_58 (by decide) ?_
          refine v_goto (tgt := 63) dX0_gap_59 (by decide) ?_
          exact hj63 _ (by first | exact (b2c_t hV0).symm | exact (b2c_f hV0).symm)
  · skip
    refine v_cut 20 (¬ ((0 ≤ a ∧ a < 2 * nI sN) ∧ (0 ≤ x ∧ x ≤ 3))) (fun hz20 => ?_) (fun hc20 => ?_)
    · skip
      refine v_iconst (v := (-1)) dX0_gap_20 (by decide) ?_
      exact v_reti dX0_gap_21 rfl (Pu_i (by unfold an_gap; rw [cf_f hz20]))
    · skip
      refine v_aload_n dX0_gap_0 rfl rfl ?_
      refine v_iload_n dX0_gap_1 rfl rfl ?_
      refine v_pV mtX0_isHand q581 q583 qs7 rfl (by decide) dX0_gap_2 (c_X0_isHand hX h39.2 _) hX.1 (by first | decide | omega) ?_
      refine v_if_eq (tgt := 20) dX0_gap_5 (by decide) (fun b5 => ?_) (fun b5 => ?_)
      · skip
        exact hc20 (by (try simp only [b2i_0, b2i_n0, b2c_0, b2c_n0] at *); grind)
      · skip
        refine v_iload_n dX0_gap_8 rfl rfl ?_
        refine v_i2l dX0_gap_9 ?_
        refine v_lconst (v := (0 : Int32).toInt64) dX0_gap_10 (by decide) ?_
        refine v_ldc2 (v := (3 : Int32).toInt64) q436 dX0_gap_11 (by decide) ?_
        refine v_pS mtX0_in q162 q163 dX0_gap_14 (c_X0_in _ _ _) (by first | decide | omega) ?_
        refine v_if_ne (tgt := 22) dX0_gap_17 (by decide) (fun b17 => ?_) (fun b17 => ?_)
        · skip
          exact hc22 (by (try simp only [b2i_0, b2i_n0, b2c_0, b2c_n0] at *); grind)
        · skip
          exact hc20 (by (try simp only [b2i_0, b2i_n0, b2c_0, b2c_n0] at *); grind)

