set_option maxRecDepth 100000
theorem I_idv {h : AH} {p k : Nat} {v : Int32} (e : hp_I h p k = v) : up_I h p k v = h := by rw [← e, I_id]
theorem cn_7 {A : Nat → Int32} {C : Nat → Nat → Int32} {nC sN m sw p x0 sd mn t s e : Nat} {S c : Int32} : cn_ A C nC sN S c m sw p x0 7 sd mn t s e ↔ wr_ A C nC sN S m x0 (2 * p + sd) mn s := by
  unfold cn_
  refine ⟨fun z => ?_, fun z => Or.inr (Or.inl ⟨rfl, z⟩)⟩
  rcases z with z | z | ⟨z0, z | z | z | z⟩
  · exact absurd z (by decide)
  · exact z.2
  all_goals exact absurd z.1 (by decide)
theorem cn_n {A : Nat → Int32} {C : Nat → Nat → Int32} {nC sN m sw p x0 sd mn t s e : Nat} {S c : Int32} (kd : Nat) (h1 : ¬ kd = 6) (h2 : ¬ kd = 7) (ht : ¬ t < 100) : ¬ cn_ A C nC sN S c m sw p x0 kd sd mn t s e := fun z => by
  rcases z with z | z | ⟨z0, z | z | z | z⟩
  · exact h1 z
  · exact h2 z.1
  all_goals exact ht z0
theorem cn_0 {A : Nat → Int32} {C : Nat → Nat → Int32} {nC sN m sw p x0 sd mn t s e : Nat} {S c : Int32} (ht : t < 100) : cn_ A C nC sN S c m sw p x0 0 sd mn t s e ↔ ∀ i, t ≤ i → (i ≤ e ∨ i = t) → fn_ A C nC sN S sw (2 * p + sd) i := by
  unfold cn_
  refine ⟨fun z => ?_, fun z => Or.inr (Or.inr ⟨ht, Or.inl ⟨rfl, z⟩⟩)⟩
  rcases z with z | z | ⟨z0, z | z | z | z⟩
  · exact absurd z (by decide)
  · exact absurd z.1 (by decide)
  · exact z.2
  all_goals exact absurd z.1 (by decide)
theorem cn_3 {A : Nat → Int32} {C : Nat → Nat → Int32} {nC sN m sw p x0 sd mn t s e : Nat} {S c : Int32} (ht : t < 100) : cn_ A C nC sN S c m sw p x0 3 sd mn t s e ↔ li_ A C S t nC ≤ nI mn := by
  unfold cn_
  refine ⟨fun z => ?_, fun z => Or.inr (Or.inr ⟨ht, Or.inr (Or.inl ⟨rfl, z⟩)⟩)⟩
  rcases z with z | z | ⟨z0, z | z | z | z⟩
  · exact absurd z (by decide)
  · exact absurd z.1 (by decide)
  · exact absurd z.1 (by decide)
  · exact z.2
  all_goals exact absurd z.1 (by decide)
theorem cn_4 {A : Nat → Int32} {C : Nat → Nat → Int32} {nC sN m sw p x0 sd mn t s e : Nat} {S c : Int32} (ht : t < 100) : cn_ A C nC sN S c m sw p x0 4 sd mn t s e ↔ ∀ q, q < sN → ¬ m.testBit q = true → ¬ ey_ A C nC sN S c q t = nI p := by
  unfold cn_
  refine ⟨fun z => ?_, fun z => Or.inr (Or.inr ⟨ht, Or.inr (Or.inr (Or.inl ⟨rfl, z⟩))⟩)⟩
  rcases z with z | z | ⟨z0, z | z | z | z⟩
  · exact absurd z (by decide)
  · exact absurd z.1 (by decide)
  · exact absurd z.1 (by decide)
  · exact absurd z.1 (by decide)
  · exact z.2
  · exact absurd z.1 (by decide)
theorem cn_5 {A : Nat → Int32} {C : Nat → Nat → Int32} {nC sN m sw p x0 sd mn t s e : Nat} {S c : Int32} (ht : t < 100) : cn_ A C nC sN S c m sw p x0 5 sd mn t s e ↔ (∃ q, q < sN ∧ hds_ A q (2 * p + (1 - sd)) t) ∧ ∀ q, q < sN → ¬ m.testBit q = true → ¬ ss_ A C nC sN S c q p t := by
  unfold cn_
  refine ⟨fun z => ?_, fun z => Or.inr (Or.inr ⟨ht, Or.inr (Or.inr (Or.inr ⟨rfl, z⟩))⟩)⟩
  rcases z with z | z | ⟨z0, z | z | z | z⟩
  · exact absurd z (by decide)
  · exact absurd z.1 (by decide)
  · exact absurd z.1 (by decide)
  · exact absurd z.1 (by decide)
  · exact absurd z.1 (by decide)
  · exact z.2
theorem hb_z {A : Nat → Int32} {sN t a : Nat} : hb_ A t a (2 * sN) = 0 ↔ ¬ ∃ q, q < sN ∧ hds_ A q a t := by
  constructor
  · rintro h ⟨q, hq⟩
    have := hb_hs.mpr hq
    rw [h, Nat.zero_testBit] at this
    exact absurd this (by decide)
  · intro h
    refine Nat.eq_of_testBit_eq fun k => ?_
    rw [Nat.zero_testBit]
    cases hk : (hb_ A t a (2 * sN)).testBit k
    · rfl
    · exact absurd ⟨k, hb_hs.mp hk⟩ h
def cnP_ (P : Prop) (h CH : AH) : Option Value → AH → Prop := fun q h1 => (P ∧ q = some (.int 1) ∧ h1 = CH) ∨ (¬ P ∧ q = some (.int 0) ∧ h1 = h)
theorem cnP_t {P : Prop} {h CH h1 : AH} (z : P) (e : h1 = CH) : cnP_ P h CH (some (.int 1)) h1 := Or.inl ⟨z, rfl, e⟩
theorem cnP_f {P : Prop} {h CH : AH} (z : ¬ P) : cnP_ P h CH (some (.int 0)) h := Or.inr ⟨z, rfl, rfl⟩
theorem cnP_b {P R : Prop} {h CH : AH} (z : R ↔ P) (e : h = CH) : cnP_ P h CH (some (.int (b2c R))) h := by
  by_cases y : R
  · rw [b2c_t y]; exact cnP_t (z.mp y) e
  · rw [b2c_f y]; exact cnP_f (fun x => y (z.mpr x))
set_option maxHeartbeats 1000000 in
theorem c_X4_can {G : Gv} {h : AH} {A : Nat → Int32} {C : Nat → Nat → Int32} {sN nC : Nat} {S : Int32} (hv : sv_ok A sN) (hL : LD_ A C nC sN S h) {p x0 m sw c j kd sd mn t s e : Nat} (hp : p < sN) (hP : hp_I h 241 36 = nI p) (hc : hp_I h 241 40 = nI c) (hc9 : c < 21) (hw : hp_I h 241 37 = nI m ^^^ -1) (hmp : m.testBit p = true) (hx : x0 ≤ sN) (hX : hp_I h 241 38 = nI x0) (hsw : hp_I h 241 41 = nI sw) (hsw4 : sw < 4) (hj : j < 128) (hst : stp_ok h j kd sd mn) (h12 : ¬ kd = 1 ∧ ¬ kd = 2) (ht : t ≤ 100) (hs9 : s < 100) (he : e < 100) : Ctr G 4 yX4_can cX4_can 8 (some .boolean) [.ref 241, .int (nI j), .int (nI t), .int (nI s), .int (nI e)] h 0 0 (cnP_ (cn_ A C nC sN S (nI c) m sw p x0 kd sd mn t s e) h (up_I (up_I h 241 40 (nI (cc_ c kd mn))) 241 41 (nI (cs_ sw kd sd)))) := by
  refine ctr_of (own := RX4) (nm := "can") (by decide) (Nat.le_of_ble_eq_true rfl) ?_
  have hm := hL.1
  have hs := hL.2.1
  have hA := hL.2.2.1
  have h3 := sv_s hv
  obtain ⟨⟨hk8, e1⟩, ⟨hd2, e2⟩, ⟨hm21, e3⟩⟩ := hst
  have hnoc : ¬ kd = 6 → ¬ kd = 5 → h = (up_I (up_I h 241 40 (nI (cc_ c kd mn))) 241 41 (nI (cs_ sw kd sd))) := fun n6 n5 => by
   unfold cc_ cs_
   rw [if_neg n6, if_neg n5, I_idv hc, I_idv hsw]
  refine v_iconst (v := 2) dX4_can_0 (by decide) ?_
  refine v_aload_n dX4_can_1 rfl rfl ?_
  refine v_getI fX4_309 dX4_can_2 (mK_obj hm) ?_
  rw [hP]
  refine v_imul dX4_can_5 ?_
  refine v_aload_n dX4_can_6 rfl rfl ?_
  refine v_getR fX4_60 dX4_can_7 (mK_obj hm) (mR_sideOf hm) ?_ fcA_I
  refine v_iload_n dX4_can_10 rfl rfl ?_
  refine v_iald dX4_can_11 (mK_sideOf hm) rfl (by first | assumption | omega) ?_
  rw [e2]
  refine v_iadd dX4_can_12 ?_
  rw [show (2 * nI p + nI sd : Int32) = nI (2 * p + sd) from by rw [nI_2, nI_add]]
  refine v_istore dX4_can_13 (by decide) ?_
  refine v_aload_n dX4_can_15 rfl rfl ?_
  refine v_getR fX4_57 dX4_can_16 (mK_obj hm) (mR_kindOf hm) ?_ fcA_I
  refine v_iload_n dX4_can_19 rfl rfl ?_
  refine v_iald dX4_can_20 (mK_kindOf hm) rfl (by first | assumption | omega) ?_
  rw [e1]
  refine v_bipush (v := nI 6) dX4_can_21 (by decide) ?_
  refine v_icmp_ne (tgt := 58) dX4_can_23 (by decide) (fun b23 => ?_) (fun b23 => ?_)
  · skip
    rw [nI_eq (by omega) (by omega)] at b23
    refine v_aload_n dX4_can_58 rfl rfl ?_
    refine v_getR fX4_57 dX4_can_59 (mK_obj hm) (mR_kindOf hm) ?_ fcA_I
    refine v_iload_n dX4_can_62 rfl rfl ?_
    refine v_iald dX4_can_63 (mK_kindOf hm) rfl (by first | assumption | omega) ?_
    rw [e1]
    refine v_bipush (v := nI 7) dX4_can_64 (by decide) ?_
    refine v_icmp_ne (tgt := 83) dX4_can_66 (by decide) (fun b66 => ?_) (fun b66 => ?_)
    · skip
      rw [nI_eq (by omega) (by omega)] at b66
      refine v_iload_n dX4_can_83 rfl rfl ?_
      refine v_bipush (v := nI 99) dX4_can_84 (by decide) ?_
      refine v_icmp_le (tgt := 91) dX4_can_86 (by decide) (fun b86 => ?_) (fun b86 => ?_)
      · skip
        rw [nI_leI (by omega) (by omega)] at b86
        have ht9 : t < 100 := by omega
        refine v_cut 132 (kd = 0) (fun hz132 => ?_) (fun hc132 => ?_)
        · skip
          subst hz132
          refine v_iconst (v := 1) dX4_can_132 (by decide) ?_
          refine v_istore dX4_can_133 (by decide) ?_
          refine v_iload_n dX4_can_135 rfl rfl ?_
          refine v_istore dX4_can_136 (by decide) ?_
          refine v_loc2 (by repeat' (first | with_reducible exact lsub_n | with_reducible refine lsub_c ?_ ?_ | with_reducible refine lk_hit ?_ | with_reducible refine lk_miss (by decide) ?_ ?_ | (first | exact rfl | exact congrArg Value.int (b2c_t (fun i h1 h2 => absurd h2 (Nat.not_lt.mpr h1))).symm))) (v_lp1 (fun (k : Nat) => 101 - k) (fun (k : Nat) => t ≤ k ∧ (k ≤ e + 1 ∨ k ≤ t + 1)) (fun (k : Nat) => [(0, .ref 241), (1, .int (nI j)), (2, .int (nI t)), (3, .int (nI s)), (4, .int (nI e)), (5, .int (nI (2 * p + sd))), (6, .int (b2c (∀ i, t ≤ i → i < k → fn_ A C nC sN S sw (2 * p + sd) i))), (7, .int (nI k))]) (fun _ => []) (fun (k : Nat) => h) ?_ t ⟨Nat.le_refl _, Or.inr (by omega)⟩)
          intro k hI IH
          obtain ⟨hI1, hI2⟩ := hI
          refine v_iload dX4_can_138 rfl ?_
          refine v_iload dX4_can_140 rfl ?_
          refine v_icmp_le (tgt := 151) dX4_can_142 (by decide) (fun b142 => ?_) (fun b142 => ?_)
          · skip
            rw [nI_leI (by omega) (by omega)] at b142
            have hk9 : k < 100 := by omega
            have hk8 : k ≤ e + 1 ∨ k ≤ t + 1 := hI2
            have hkn : k + 1 ≤ e + 1 ∨ k + 1 ≤ t + 1 := by omega
            refine v_iload dX4_can_151 rfl ?_
            refine v_if_eq (tgt := 172) dX4_can_153 (by decide) (fun b153 => ?_) (fun b153 => ?_)
            · skip
              have b153x := b2c_0.mp b153
              have hq : (∀ i, t ≤ i → i < k → fn_ A C nC sN S sw (2 * p + sd) i) ↔ cn_ A C nC sN S (nI c) m sw p x0 0 sd mn t s e := by
               rw [cn_0 ht9]
               exact ⟨fun z => absurd z b153x, fun z => absurd (fun i h1 h2 => z i h1 (by omega)) b153x⟩
              refine v_iload dX4_can_172 rfl ?_
              refine v_reti dX4_can_174 (by first | rfl | exact rt_c | exact rt_z | exact Or.inr rfl) (cnP_b hq (hnoc (by decide) (by decide)))
            · skip
              have b153x := b2c_n0.mp b153
              have hiff : fn_ A C nC sN S sw (2 * p + sd) k ↔ (∀ i, t ≤ i → i < k + 1 → fn_ A C nC sN S sw (2 * p + sd) i) := ⟨fun z i h1 h2 => (Nat.lt_succ_iff_lt_or_eq.mp h2).elim (fun y => b153x i h1 y) (fun y => by rw [y]; exact z), fun z => z k hI1 (by omega)⟩
              refine v_aload_n dX4_can_156 rfl rfl ?_
              refine v_iload dX4_can_157 rfl ?_
              refine v_iload dX4_can_159 rfl ?_
              refine v_pV mtX4_isFreeNow q2032 q2034 qs93 rfl (by decide) dX4_can_161 (c_X4_isFreeNow hv hL hsw hsw4 ?_ ?_) (mK_obj hm) (by decide) ?_
              · omega
              · omega
              refine v_istore dX4_can_164 (by decide) ?_
              refine v_iinc dX4_can_166 rfl (by first | with_reducible exact nI_inc _ | exact rfl) (by decide) ?_
              refine v_goto (tgt := 138) dX4_can_169 (by decide) ?_
              refine v_loc2 (by repeat' (first | with_reducible exact lsub_n | with_reducible refine lsub_c ?_ ?_ | with_reducible refine lk_hit ?_ | with_reducible refine lk_miss (by decide) ?_ ?_ | (first | exact rfl | exact congrArg Value.int (b2c_t (fun i h1 h2 => absurd h2 (Nat.not_lt.mpr h1))).symm | exact congrArg Value.int (b2c_c hiff)))) (IH (k + 1) ⟨by omega, hkn⟩ (by omega))
          · skip
            rw [nI_leI (by omega) (by omega)] at b142
            refine v_iload dX4_can_145 rfl ?_
            refine v_iload_n dX4_can_147 rfl rfl ?_
            refine v_icmp_ne (tgt := 172) dX4_can_148 (by decide) (fun b148 => ?_) (fun b148 => ?_)
            · skip
              rw [nI_eq (by omega) (by omega)] at b148
              have hq : (∀ i, t ≤ i → i < k → fn_ A C nC sN S sw (2 * p + sd) i) ↔ cn_ A C nC sN S (nI c) m sw p x0 0 sd mn t s e := by
               rw [cn_0 ht9]
               exact ⟨fun z i h1 h2 => z i h1 (by omega), fun z i h1 h2 => z i h1 (by omega)⟩
              refine v_iload dX4_can_172 rfl ?_
              refine v_reti dX4_can_174 (by first | rfl | exact rt_c | exact rt_z | exact Or.inr rfl) (cnP_b hq (hnoc (by decide) (by decide)))
            · skip
              rw [nI_eq (by omega) (by omega)] at b148
              have hk9 : k < 100 := by omega
              have hkn : k + 1 ≤ e + 1 ∨ k + 1 ≤ t + 1 := by omega
              refine v_iload dX4_can_151 rfl ?_
              refine v_if_eq (tgt := 172) dX4_can_153 (by decide) (fun b153 => ?_) (fun b153 => ?_)
              · skip
                have b153x := b2c_0.mp b153
                have hq : (∀ i, t ≤ i → i < k → fn_ A C nC sN S sw (2 * p + sd) i) ↔ cn_ A C nC sN S (nI c) m sw p x0 0 sd mn t s e := by
                 rw [cn_0 ht9]
                 exact ⟨fun z => absurd z b153x, fun z => absurd (fun i h1 h2 => z i h1 (by omega)) b153x⟩
                refine v_iload dX4_can_172 rfl ?_
                refine v_reti dX4_can_174 (by first | rfl | exact rt_c | exact rt_z | exact Or.inr rfl) (cnP_b hq (hnoc (by decide) (by decide)))
              · skip
                have b153x := b2c_n0.mp b153
                have hiff : fn_ A C nC sN S sw (2 * p + sd) k ↔ (∀ i, t ≤ i → i < k + 1 → fn_ A C nC sN S sw (2 * p + sd) i) := ⟨fun z i h1 h2 => (Nat.lt_succ_iff_lt_or_eq.mp h2).elim (fun y => b153x i h1 y) (fun y => by rw [y]; exact z), fun z => z k hI1 (by omega)⟩
                refine v_aload_n dX4_can_156 rfl rfl ?_
                refine v_iload dX4_can_157 rfl ?_
                refine v_iload dX4_can_159 rfl ?_
                refine v_pV mtX4_isFreeNow q2032 q2034 qs93 rfl (by decide) dX4_can_161 (c_X4_isFreeNow hv hL hsw hsw4 ?_ ?_) (mK_obj hm) (by decide) ?_
                · omega
                · omega
                refine v_istore dX4_can_164 (by decide) ?_
                refine v_iinc dX4_can_166 rfl (by first | with_reducible exact nI_inc _ | exact rfl) (by decide) ?_
                refine v_goto (tgt := 138) dX4_can_169 (by decide) ?_
                refine v_loc2 (by repeat' (first | with_reducible exact lsub_n | with_reducible refine lsub_c ?_ ?_ | with_reducible refine lk_hit ?_ | with_reducible refine lk_miss (by decide) ?_ ?_ | (first | exact rfl | exact congrArg Value.int (b2c_t (fun i h1 h2 => absurd h2 (Nat.not_lt.mpr h1))).symm | exact congrArg Value.int (b2c_c hiff)))) (IH (k + 1) ⟨by omega, hkn⟩ (by omega))
        · skip
          refine v_cut 175 (kd = 3) (fun hz175 => ?_) (fun hc175 => ?_)
          · skip
            subst hz175
            refine v_aload_n dX4_can_175 rfl rfl ?_
            refine v_getR fX4_27 dX4_can_176 (mK_obj hm) (mR_lit hm) ?_ fcA_I
            refine v_iload_n dX4_can_179 rfl rfl ?_
            refine v_iald dX4_can_180 (mK_lit hm) rfl (by first | assumption | omega) ?_
            rw [LD_lit hL ht9]
            refine v_aload_n dX4_can_181 rfl rfl ?_
            refine v_getR fX4_63 dX4_can_182 (mK_obj hm) (mR_manyOf hm) ?_ fcA_I
            refine v_iload_n dX4_can_185 rfl rfl ?_
            refine v_iald dX4_can_186 (mK_manyOf hm) rfl (by first | assumption | omega) ?_
            rw [e3]
            refine v_icmp_gt (tgt := 194) dX4_can_187 (by decide) (fun b187 => ?_) (fun b187 => ?_)
            · skip
              refine v_iconst (v := 0) dX4_can_194 (by decide) ?_
              refine v_reti dX4_can_195 (by first | rfl | exact rt_c | exact rt_z | exact Or.inr rfl) ?_
              first | exact cnP_f (fun z => Int32.not_le.mpr b187 ((cn_3 ht9).mp z)) | exact cnP_t ((cn_3 ht9).mpr (Int32.not_lt.mp b187)) (hnoc (by decide) (by decide))
            · skip
              refine v_iconst (v := 1) dX4_can_190 (by decide) ?_
              refine v_goto (tgt := 195) dX4_can_191 (by decide) ?_
              refine v_reti dX4_can_195 (by first | rfl | exact rt_c | exact rt_z | exact Or.inr rfl) ?_
              first | exact cnP_f (fun z => Int32.not_le.mpr b187 ((cn_3 ht9).mp z)) | exact cnP_t ((cn_3 ht9).mpr (Int32.not_lt.mp b187)) (hnoc (by decide) (by decide))
          · skip
            refine v_cut 196 (kd = 4) (fun hz196 => ?_) (fun hc196 => ?_)
            · skip
              subst hz196
              refine v_aload_n dX4_can_196 rfl rfl ?_
              refine v_getR fX4_30 dX4_can_197 (mK_obj hm) (mR_eyed hm) ?_ fcA_I
              refine v_bipush (v := 100) dX4_can_200 (by decide) ?_
              refine v_aload_n dX4_can_202 rfl rfl ?_
              refine v_getI fX4_309 dX4_can_203 (mK_obj hm) ?_
              rw [hP]
              refine v_imul dX4_can_206 ?_
              refine v_iload_n dX4_can_207 rfl rfl ?_
              refine v_iadd dX4_can_208 ?_
              refine v_iald dX4_can_209 (mK_eyed hm) (ix_add (ix_mul (ix_lit _) rfl) rfl) (by first | assumption | omega) ?_
              rw [LD_eye hL (by omega) ht9]
              refine v_join 226 (fun z => z = nI (sc_ (fun q => ¬ q = p ∧ ld_ A C nC S (nI c) q t) sN)) (fun z hz => ?_) (fun hj226 => ?_)
              · skip
                subst hz
                refine v_iconst (v := (-1)) dX4_can_226 (by decide) ?_
                refine v_ixor dX4_can_227 ?_
                refine v_iand dX4_can_228 ?_
                rw [and_cm (Nat.lt_of_lt_of_le (sb_lt _ _) (Nat.pow_le_pow_right (by decide) h3.2 : 2 ^ sN ≤ 2 ^ 9))]
                refine v_aload_n dX4_can_229 rfl rfl ?_
                refine v_getI fX4_318 dX4_can_230 (mK_obj hm) ?_
                rw [hw]
                refine v_iand dX4_can_233 ?_
                rw [and_cm (Nat.lt_of_le_of_lt Nat.and_le_left (Nat.lt_of_lt_of_le (sb_lt _ _) (Nat.pow_le_pow_right (by decide) h3.2 : 2 ^ sN ≤ 2 ^ 9))), away_eq h3.2 hp hmp]
                refine v_if_ne (tgt := 241) dX4_can_234 (by decide) (fun b234 => ?_) (fun b234 => ?_)
                · skip
                  rw [show (0 : Int32) = nI 0 from rfl, nI_eq (Nat.lt_trans (sc_lt9 h3.2) (by decide)) (by decide), sc_z] at b234
                  refine v_iconst (v := 0) dX4_can_241 (by decide) ?_
                  refine v_reti dX4_can_242 (by first | rfl | exact rt_c | exact rt_z | exact Or.inr rfl) ?_
                  first | exact cnP_t ((cn_4 ht9).mpr (fun q h1 h2 h3 => b234 q h1 ⟨h2, h3⟩)) (hnoc (by decide) (by decide)) | exact cnP_f (fun z => b234 (fun q h1 h2 => (cn_4 ht9).mp z q h1 h2.1 h2.2))
                · skip
                  rw [show (0 : Int32) = nI 0 from rfl, nI_eq (Nat.lt_trans (sc_lt9 h3.2) (by decide)) (by decide), sc_z] at b234
                  refine v_iconst (v := 1) dX4_can_237 (by decide) ?_
                  refine v_goto (tgt := 242) dX4_can_238 (by decide) ?_
                  refine v_reti dX4_can_242 (by first | rfl | exact rt_c | exact rt_z | exact Or.inr rfl) ?_
                  first | exact cnP_t ((cn_4 ht9).mpr (fun q h1 h2 h3 => b234 q h1 ⟨h2, h3⟩)) (hnoc (by decide) (by decide)) | exact cnP_f (fun z => b234 (fun q h1 h2 => (cn_4 ht9).mp z q h1 h2.1 h2.2))
              · skip
                refine v_aload_n dX4_can_210 rfl rfl ?_
                refine v_getI fX4_312 dX4_can_211 (mK_obj hm) ?_
                rw [hc]
                refine v_if_ne (tgt := 221) dX4_can_214 (by decide) (fun b214 => ?_) (fun b214 => ?_)
                · skip
                  refine v_aload_n dX4_can_221 rfl rfl ?_
                  refine v_iload_n dX4_can_222 rfl rfl ?_
                  refine v_pV mtX4_ledBy q2020 q2022 qs90 rfl (by decide) dX4_can_223 (c_X4_ledBy hv hL hp hP hc ht9) (mK_obj hm) (by decide) ?_
                  exact hj226 _ (by first | rfl | (rw [b214, sc_n (fun k hk z => ld_0 (q := k) hv (by omega) z.2)]; rfl))
                · skip
                  refine v_iconst (v := 0) dX4_can_217 (by decide) ?_
                  refine v_goto (tgt := 226) dX4_can_218 (by decide) ?_
                  exact hj226 _ (by first | rfl | (rw [b214, sc_n (fun k hk z => ld_0 (q := k) hv (by omega) z.2)]; rfl))
            · skip
              refine v_cut 243 (kd = 5) (fun hz243 => ?_) (fun hc243 => ?_)
              · skip
                subst hz243
                refine v_aload_n dX4_can_243 rfl rfl ?_
                refine v_getR fX4_39 dX4_can_244 (mK_obj hm) (mR_heldBy hm) ?_ fcA_I
                refine v_bipush (v := 100) dX4_can_247 (by decide) ?_
                refine v_iload dX4_can_249 rfl ?_
                refine v_iconst (v := 1) dX4_can_251 (by decide) ?_
                refine v_ixor dX4_can_252 ?_
                rw [xor1 (2 * p + sd) (by omega), show 2 * ((2 * p + sd) / 2) + (1 - (2 * p + sd) % 2) = 2 * p + (1 - sd) by omega]
                refine v_imul dX4_can_253 ?_
                refine v_iload_n dX4_can_254 rfl rfl ?_
                refine v_iadd dX4_can_255 ?_
                refine v_iald dX4_can_256 (mK_heldBy hm) (ix_add (ix_mul (ix_lit _) rfl) rfl) (by first | assumption | omega) ?_
                rw [LD_held hL (by omega) ht9]
                refine v_if_eq (tgt := 272) dX4_can_257 (by decide) (fun b257 => ?_) (fun b257 => ?_)
                · skip
                  rw [show (0 : Int32) = nI 0 from rfl, nI_eq (Nat.lt_trans (hb_lt _ _ _ _ (by omega)) (by decide)) (by decide), hb_z] at b257
                  have hq : ¬ cn_ A C nC sN S (nI c) m sw p x0 5 sd mn t s e := fun z => b257 ((cn_5 ht9).mp z).1
                  refine v_iconst (v := 0) dX4_can_272 (by decide) ?_
                  refine v_reti dX4_can_273 (by first | rfl | exact rt_c | exact rt_z | exact Or.inr rfl) (cnP_f hq)
                · skip
                  rw [show (0 : Int32) = nI 0 from rfl, nI_eq (Nat.lt_trans (hb_lt _ _ _ _ (by omega)) (by decide)) (by decide), hb_z, Classical.not_not] at b257
                  refine v_aload_n dX4_can_260 rfl rfl ?_
                  refine v_aload_n dX4_can_261 rfl rfl ?_
                  refine v_getI fX4_309 dX4_can_262 (mK_obj hm) ?_
                  rw [hP]
                  refine v_iload_n dX4_can_265 rfl rfl ?_
                  refine v_pV mtX4_seers q2016 q2018 qs89 rfl (by decide) dX4_can_266 (c_X4_seers hv hL hp hP hc hw hmp ?_ ?_) (mK_obj hm) (by decide) ?_
                  · omega
                  · omega
                  refine v_if_eq (tgt := 274) dX4_can_269 (by decide) (fun b269 => ?_) (fun b269 => ?_)
                  · skip
                    rw [show (0 : Int32) = nI 0 from rfl, nI_eq (Nat.lt_trans (sc_lt9 h3.2) (by decide)) (by decide), sc_z] at b269
                    refine v_aload_n dX4_can_274 rfl rfl ?_
                    refine v_dup dX4_can_275 rfl ?_
                    refine v_getI fX4_321 dX4_can_276 (mK_obj hm) ?_
                    rw [hsw]
                    refine v_iconst (v := 1) dX4_can_279 (by decide) ?_
                    refine v_aload_n dX4_can_280 rfl rfl ?_
                    refine v_getR fX4_60 dX4_can_281 (mK_obj hm) (mR_sideOf hm) ?_ fcA_I
                    refine v_iload_n dX4_can_284 rfl rfl ?_
                    refine v_iald dX4_can_285 (mK_sideOf hm) rfl (by first | assumption | omega) ?_
                    rw [e2]
                    refine v_ishl dX4_can_286 ?_
                    refine v_ior dX4_can_287 ?_
                    rw [or_sh (by omega)]
                    refine v_putI fX4_321 (.inl rfl) dX4_can_288 (mK_obj hm) ?_
                    refine v_iconst (v := 1) dX4_can_291 (by decide) ?_
                    refine v_reti dX4_can_292 (by first | rfl | exact rt_c | exact rt_z | exact Or.inr rfl) (cnP_t ((cn_5 ht9).mpr ⟨b257, fun q h1 h2 h3 => b269 q h1 ⟨h2, h3⟩⟩) (by unfold cc_ cs_; rw [if_neg (by decide), if_pos rfl, I_idv hc]))
                  · skip
                    rw [show (0 : Int32) = nI 0 from rfl, nI_eq (Nat.lt_trans (sc_lt9 h3.2) (by decide)) (by decide), sc_z] at b269
                    have hq : ¬ cn_ A C nC sN S (nI c) m sw p x0 5 sd mn t s e := fun z => b269 (fun q h1 h2 => ((cn_5 ht9).mp z).2 q h1 h2.1 h2.2)
                    refine v_iconst (v := 0) dX4_can_272 (by decide) ?_
                    refine v_reti dX4_can_273 (by first | rfl | exact rt_c | exact rt_z | exact Or.inr rfl) (cnP_f hq)
              · skip
                refine v_aload_n dX4_can_91 rfl rfl ?_
                refine v_getR fX4_57 dX4_can_92 (mK_obj hm) (mR_kindOf hm) ?_ fcA_I
                refine v_iload_n dX4_can_95 rfl rfl ?_
                refine v_iald dX4_can_96 (mK_kindOf hm) rfl (by first | assumption | omega) ?_
                rw [e1]
                rcases (show kd = 0 ∨ kd = 3 ∨ kd = 4 ∨ kd = 5 by omega) with rfl | rfl | rfl | rfl
                · refine v_tableIn (tgt := 132) (off := 35) dX4_can_97 (by decide) (by decide) (by decide) (by decide) ?_
                  exact hc132 rfl
                · refine v_tableIn (tgt := 175) (off := 78) dX4_can_97 (by decide) (by decide) (by decide) (by decide) ?_
                  exact hc175 rfl
                · refine v_tableIn (tgt := 196) (off := 99) dX4_can_97 (by decide) (by decide) (by decide) (by decide) ?_
                  exact hc196 rfl
                · refine v_tableOut (tgt := 243) dX4_can_97 (by decide) (by decide) ?_
                  exact hc243 rfl
      · skip
        rw [nI_leI (by omega) (by omega)] at b86
        refine v_iconst (v := 0) dX4_can_89 (by decide) ?_
        refine v_reti dX4_can_90 (by first | rfl | exact rt_c | exact rt_z | exact Or.inr rfl) (cnP_f (cn_n _ b23 b66 (by omega)))
    · skip
      have hk : kd = 7 := (nI_eq (by omega) (by omega)).mp b66
      subst hk
      refine v_aload_n dX4_can_69 rfl rfl ?_
      refine v_iload dX4_can_70 rfl ?_
      refine v_aload_n dX4_can_72 rfl rfl ?_
      refine v_getR fX4_63 dX4_can_73 (mK_obj hm) (mR_manyOf hm) ?_ fcA_I
      refine v_iload_n dX4_can_76 rfl rfl ?_
      refine v_iald dX4_can_77 (mK_manyOf hm) rfl (by first | assumption | omega) ?_
      rw [e3]
      refine v_iload_n dX4_can_78 rfl rfl ?_
      refine v_pV mtX4_wasReady q2028 q2030 qs92 rfl (by decide) dX4_can_79 (c_X4_wasReady hv hL hw hx hX ?_ ?_ ?_) (mK_obj hm) (by decide) ?_
      · omega
      · omega
      · omega
      refine v_reti dX4_can_82 (by first | rfl | exact rt_c | exact rt_z | exact Or.inr rfl) (cnP_b cn_7.symm (hnoc (by decide) (by decide)))
  · skip
    have hk : kd = 6 := (nI_eq (by omega) (by omega)).mp b23
    subst hk
    refine v_aload_n dX4_can_26 rfl rfl ?_
    refine v_aload_n dX4_can_27 rfl rfl ?_
    refine v_getR fX4_63 dX4_can_28 (mK_obj hm) (mR_manyOf hm) ?_ fcA_I
    refine v_iload_n dX4_can_31 rfl rfl ?_
    refine v_iald dX4_can_32 (mK_manyOf hm) rfl (by first | assumption | omega) ?_
    rw [e3]
    refine v_aload_n dX4_can_33 rfl rfl ?_
    refine v_getI fX4_312 dX4_can_34 (mK_obj hm) ?_
    rw [hc]
    refine v_icmp_le (tgt := 49) dX4_can_37 (by decide) (fun b37 => ?_) (fun b37 => ?_)
    · skip
      rw [nI_leI (by omega) (by omega)] at b37
      have hq : up_I h 241 40 (nI c) = up_I (up_I h 241 40 (nI (cc_ c 6 mn))) 241 41 (nI (cs_ sw 6 sd)) := by
       unfold cc_ cs_
       rw [if_pos rfl, if_neg (by decide), Nat.max_eq_left b37, I_idv hc, I_idv hsw]
      refine v_aload_n dX4_can_49 rfl rfl ?_
      refine v_getI fX4_312 dX4_can_50 (mK_obj hm) ?_
      rw [hc]
      refine v_putI fX4_312 (.inl rfl) dX4_can_53 (mK_obj hm) ?_
      refine v_iconst (v := 1) dX4_can_56 (by decide) ?_
      refine v_reti dX4_can_57 (by first | rfl | exact rt_c | exact rt_z | exact Or.inr rfl) (cnP_t (Or.inl rfl) hq)
    · skip
      rw [nI_leI (by omega) (by omega)] at b37
      have hq : up_I h 241 40 (nI mn) = up_I (up_I h 241 40 (nI (cc_ c 6 mn))) 241 41 (nI (cs_ sw 6 sd)) := by
       unfold cc_ cs_
       rw [if_pos rfl, if_neg (by decide), Nat.max_eq_right (by omega), I_idv (show hp_I (up_I h 241 40 (nI mn)) 241 41 = nI sw from hsw)]
      refine v_aload_n dX4_can_40 rfl rfl ?_
      refine v_getR fX4_63 dX4_can_41 (mK_obj hm) (mR_manyOf hm) ?_ fcA_I
      refine v_iload_n dX4_can_44 rfl rfl ?_
      refine v_iald dX4_can_45 (mK_manyOf hm) rfl (by first | assumption | omega) ?_
      rw [e3]
      refine v_goto (tgt := 53) dX4_can_46 (by decide) ?_
      refine v_putI fX4_312 (.inl rfl) dX4_can_53 (mK_obj hm) ?_
      refine v_iconst (v := 1) dX4_can_56 (by decide) ?_
      refine v_reti dX4_can_57 (by first | rfl | exact rt_c | exact rt_z | exact Or.inr rfl) (cnP_t (Or.inl rfl) hq)

