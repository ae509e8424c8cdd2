set_option maxRecDepth 100000
def stw_ (A : Nat → Int32) (C : Nat → Nat → Int32) (nC sN : Nat) (S : Int32) (h : AH) (r w p : Nat) (b : Int32) : Prop := sto_ A C nC sN S h r w p 0 ∨ (¬ b = 0 ∧ ∃ q, q < sN ∧ ¬ q = p ∧ sto_ A C nC sN S h r w p (2 ^ q))
/-- the laid arrays and the run's fields alone differ -/
def fx_ (h h' : AH) : Prop := hp_n h' = hp_n h ∧ hp_K h' = hp_K h ∧ hp_R h' = hp_R h ∧ hp_L h' = hp_L h ∧ (∀ p, (p < 245 ∨ 252 < p) → p ≠ 241 → hp_I h' p = hp_I h p) ∧ ∀ f, (f < 36 ∨ 41 < f) → hp_I h' 241 f = hp_I h 241 f
theorem fx_fr {h h1 : AH} (a : fr_ h h1) : fx_ h h1 := ⟨a.1, a.2.1, a.2.2.1, a.2.2.2.1, fun p hp _ => a.2.2.2.2 p hp, fun f _ => by rw [a.2.2.2.2 241 (Or.inl (by decide))]⟩
theorem fx_r6 {h h1 : AH} (a : r6_ h h1) : fx_ h h1 := ⟨a.1, a.2.1, a.2.2.1, a.2.2.2.1, fun p _ hp => a.2.2.2.2.1 p hp, a.2.2.2.2.2⟩
theorem fx_rf (h : AH) : fx_ h h := fx_r6 (r6_rf h)
theorem fx_tr {h h1 h2 : AH} (a : fx_ h h1) (b : fx_ h1 h2) : fx_ h h2 := ⟨b.1.trans a.1, b.2.1.trans a.2.1, b.2.2.1.trans a.2.2.1, b.2.2.2.1.trans a.2.2.2.1, fun p hp h3 => (b.2.2.2.2.1 p hp h3).trans (a.2.2.2.2.1 p hp h3), fun f hf => (b.2.2.2.2.2 f hf).trans (a.2.2.2.2.2 f hf)⟩
theorem fp_fx {h h1 : AH} (a : fx_ h h1) : fp_ h h1 := ⟨a.1, a.2.1, a.2.2.1, fun p hp h3 => ⟨a.2.2.2.2.1 p (by
    rcases Nat.lt_or_ge p 245 with z | z
    · exact Or.inl z
    · rcases Nat.lt_or_ge 252 p with y | y
      · exact Or.inr y
      · exact absurd (by rcases (show p = 245 ∨ p = 246 ∨ p = 247 ∨ p = 248 ∨ p = 249 ∨ p = 250 ∨ p = 251 ∨ p = 252 by omega) with e | e | e | e | e | e | e | e <;> subst e <;> decide) hp) h3, by rw [a.2.2.2.1]⟩, fun f hf => a.2.2.2.2.2 f (Classical.byContradiction fun z => hf (by
  rcases (show f = 36 ∨ f = 37 ∨ f = 38 ∨ f = 39 ∨ f = 40 ∨ f = 41 by omega) with e | e | e | e | e | e <;> subst e <;> decide))⟩
theorem fx_33 {h h1 : AH} (a : fx_ h h1) : hp_I h1 243 = hp_I h 243 := a.2.2.2.2.1 243 (Or.inl (by decide)) (by decide)
theorem fx_ct {h h1 : AH} (a : fx_ h h1) : ct_ h1 = ct_ h := ct_e fun j _ => a.2.2.2.2.1 _ (Or.inr (by omega)) (by omega)
theorem fx_MS {h h1 : AH} {sN nC : Nat} (hS : MS_ h sN nC) (a : fx_ h h1) : MS_ h1 sN nC := by
  refine ⟨MI_of hS.1 (fun p _ _ => by rw [a.2.1]) (fun k => by rw [a.2.2.1]), ?_⟩
  rw [a.2.2.2.2.2 4 (by omega), a.2.2.2.2.2 48 (by omega), fx_33 a, fx_ct a]
  exact hS.2
theorem fx_RP {h h1 : AH} {nR sN : Nat} (f : fx_ h h1) (b : RP_ h nR sN) : RP_ h1 nR sN := by
  unfold RP_
  rw [f.2.2.2.2.2 42 (by omega), f.2.2.2.2.1 259 (Or.inr (by decide)) (by decide)]
  exact b
theorem fx_WX {h h1 : AH} {nW : Nat} (a : WX_ h nW) (f : fx_ h h1) : WX_ h1 nW := by
  refine ⟨by rw [f.2.2.2.2.2 15 (by omega)]; exact a.1, a.2.1, ?_⟩
  rw [f.2.2.2.2.1 254 (Or.inr (by decide)) (by decide), f.2.2.2.2.1 255 (Or.inr (by decide)) (by decide), f.2.2.2.2.1 256 (Or.inr (by decide)) (by decide), f.2.2.2.2.1 257 (Or.inr (by decide)) (by decide)]
  exact a.2.2
theorem fiv_fx {A : Nat → Int32} {C : Nat → Nat → Int32} {nC sN : Nat} {S : Int32} {h h1 : AH} {w p f th g s e : Nat} (a : fx_ h h1) : fiv_ A C nC sN S h1 w p f th g s e = fiv_ A C nC sN S h w p f th g s e :=
  fiv_h (a.2.2.2.2.1 254 (Or.inr (by decide)) (by decide)) (a.2.2.2.2.1 255 (Or.inr (by decide)) (by decide)) (a.2.2.2.2.1 256 (Or.inr (by decide)) (by decide)) (a.2.2.2.2.1 257 (Or.inr (by decide)) (by decide))
/-- no way fits the task, for nobody -/
def dc_ (A : Nat → Int32) (C : Nat → Nat → Int32) (nC sN : Nat) (S : Int32) (h : AH) (nW th g s e : Nat) : Prop := ∀ w, w < nW → ∀ p, p < sN → fiv_ A C nC sN S h w p 0 th g s e = -1
set_option maxHeartbeats 1000000 in
theorem c_X4_isStoryWith {G : Gv} {h : AH} {A : Nat → Int32} {C : Nat → Nat → Int32} {sN nC : Nat} {S : Int32} (hv : sv_ok A sN) (hL : LD_ A C nC sN S h) {nR nW r w p : Nat} (hR : RP_ h nR sN) (hr : r < nR) (h0 : hp_I h 259 (7 * r + 1) = 0) (hW : WX_ h nW) (hw : w < nW) (hp : p < sN) (b : Int32) : Ctr G 8 yX4_isStoryWith cX4_isStoryWith 7 (some .boolean) [.ref 241, .int (nI r), .int (nI w), .int (nI p), .int b] h 0 0 (fun q h1 => q = some (.int (b2c (stw_ A C nC sN S h r w p b))) ∧ r6_ h h1) := by
  refine ctr_of (own := RX4) (nm := "isStoryWith") (by decide) (Nat.le_of_ble_eq_true rfl) ?_
  have hm := hL.1
  have hs := hL.2.1
  have hA := hL.2.2.1
  have h3 := sv_s hv
  refine v_aload_n dX4_isStoryWith_0 rfl rfl ?_
  refine v_iload_n dX4_isStoryWith_1 rfl rfl ?_
  refine v_iload_n dX4_isStoryWith_2 rfl rfl ?_
  refine v_iload_n dX4_isStoryWith_3 rfl rfl ?_
  refine v_iconst (v := nI 0) dX4_isStoryWith_4 (by decide) ?_
  refine v_zV mtX4_isStory q2089 q2091 qs102 rfl (by decide) dX4_isStoryWith_5 (c_X4_isStory (f := 0) hv hL hR hr h0 hW hw hp (by decide)) (mK_obj hm) (by decide) (fun r5 h5 q5 z5 => ?_)
  obtain ⟨rfl, hr6⟩ := q5
  refine v_istore dX4_isStoryWith_8 (by decide) ?_
  refine v_iconst (v := 0) dX4_isStoryWith_10 (by decide) ?_
  refine v_istore dX4_isStoryWith_11 (by decide) ?_
  refine v_loc2 (by repeat' (first | with_reducible exact lsub_n | with_reducible refine lsub_c ?_ ?_ | with_reducible refine lk_hit ?_ | with_reducible refine lk_miss (by decide) ?_ ?_ | (first | exact rfl | exact congrArg Value.int (b2c_c ⟨Or.inl, fun z => z.elim id (fun ⟨q, h1, _⟩ => absurd h1 (Nat.not_lt_zero q))⟩)))) (v_lp2 (fun (k : Nat) (hh : AH) => sN - k) (fun (k : Nat) (hh : AH) => k ≤ sN ∧ r6_ h hh ∧ (b = 0 → k = 0)) (fun (k : Nat) (hh : AH) => [(0, .ref 241), (1, .int (nI r)), (2, .int (nI w)), (3, .int (nI p)), (4, .int b), (5, .int (b2c (sto_ A C nC sN S h r w p 0 ∨ ∃ q, q < k ∧ ¬ q = p ∧ sto_ A C nC sN S h r w p (2 ^ q)))), (6, .int (nI k))]) (fun (k : Nat) (hh : AH) => hh) ?_ 0 _ ⟨Nat.zero_le _, hr6, fun _ => rfl⟩)
  intro k hh hI IH
  obtain ⟨hI1, hrr, hI3⟩ := hI
  have hm : MI hh := r6_m hrr hL.1
  refine v_iload dX4_isStoryWith_13 rfl ?_
  refine v_aload_n dX4_isStoryWith_15 rfl rfl ?_
  refine v_getI fX4_24 dX4_isStoryWith_16 (mK_obj hm) ?_
  rw [hrr.2.2.2.2.2 4 (by omega), hs]
  refine v_icmp_ge (tgt := 65) dX4_isStoryWith_19 (by decide) (fun b19 => ?_) (fun b19 => ?_)
  · skip
    rw [nI_leI (by omega) (by omega)] at b19
    have hk : sN = k := by omega
    have hq : (sto_ A C nC sN S h r w p 0 ∨ ∃ q, q < k ∧ ¬ q = p ∧ sto_ A C nC sN S h r w p (2 ^ q)) ↔ stw_ A C nC sN S h r w p b := by
     unfold stw_
     rw [← hk]
     exact ⟨fun z => z.elim Or.inl (fun y => Or.inr ⟨fun u => by have := hI3 u; omega, y⟩), fun z => z.elim Or.inl (fun y => Or.inr y.2)⟩
    refine v_iload dX4_isStoryWith_65 rfl ?_
    exact v_reti dX4_isStoryWith_67 (by first | rfl | exact rt_c | exact rt_z | exact Or.inr rfl) ⟨congrArg (fun z => some (Value.int z)) (b2c_c hq), hrr⟩
  · skip
    rw [nI_leI (by omega) (by omega)] at b19
    have hk : k < sN := by omega
    refine v_iload dX4_isStoryWith_22 rfl ?_
    refine v_if_eq (tgt := 65) dX4_isStoryWith_24 (by decide) (fun b24 => ?_) (fun b24 => ?_)
    · skip
      have hq : (sto_ A C nC sN S h r w p 0 ∨ ∃ q, q < k ∧ ¬ q = p ∧ sto_ A C nC sN S h r w p (2 ^ q)) ↔ stw_ A C nC sN S h r w p b := by
       unfold stw_
       exact ⟨fun z => z.elim Or.inl (fun ⟨q, h1, _⟩ => by have := hI3 b24; omega), fun z => z.elim Or.inl (fun y => absurd b24 y.1)⟩
      refine v_iload dX4_isStoryWith_65 rfl ?_
      exact v_reti dX4_isStoryWith_67 (by first | rfl | exact rt_c | exact rt_z | exact Or.inr rfl) ⟨congrArg (fun z => some (Value.int z)) (b2c_c hq), hrr⟩
    · skip
      refine v_iload dX4_isStoryWith_27 rfl ?_
      refine v_if_ne (tgt := 65) dX4_isStoryWith_29 (by decide) (fun b29 => ?_) (fun b29 => ?_)
      · skip
        have b29x := b2c_n0.mp b29
        have hq : (sto_ A C nC sN S h r w p 0 ∨ ∃ q, q < k ∧ ¬ q = p ∧ sto_ A C nC sN S h r w p (2 ^ q)) ↔ stw_ A C nC sN S h r w p b := ⟨fun z => z.elim Or.inl (fun ⟨q, h1, h2⟩ => Or.inr ⟨b24, q, by omega, h2⟩), fun _ => b29x⟩
        refine v_iload dX4_isStoryWith_65 rfl ?_
        exact v_reti dX4_isStoryWith_67 (by first | rfl | exact rt_c | exact rt_z | exact Or.inr rfl) ⟨congrArg (fun z => some (Value.int z)) (b2c_c hq), hrr⟩
      · skip
        have b29x := b2c_0.mp b29
        refine v_iload dX4_isStoryWith_32 rfl ?_
        refine v_iload_n dX4_isStoryWith_34 rfl rfl ?_
        refine v_icmp_eq (tgt := 56) dX4_isStoryWith_35 (by decide) (fun b35 => ?_) (fun b35 => ?_)
        · skip
          rw [nI_eq (by omega) (by omega)] at b35
          have hzq : ¬ (sto_ A C nC sN S h r w p 0 ∨ ∃ q, q < (k + 1) ∧ ¬ q = p ∧ sto_ A C nC sN S h r w p (2 ^ q)) := fun z => b29x (z.elim Or.inl (fun ⟨q, h1, h2⟩ => Or.inr ⟨q, by have := h2.1; omega, h2⟩))
          have hnr := hrr
          refine v_iconst (v := 0) dX4_isStoryWith_56 (by decide) ?_
          refine v_istore dX4_isStoryWith_57 (by decide) ?_
          refine v_iinc dX4_isStoryWith_59 rfl (by first | with_reducible exact nI_inc _ | exact rfl) (by decide) ?_
          refine v_goto (tgt := 13) dX4_isStoryWith_62 (by decide) ?_
          refine v_loc2 (by repeat' (first | with_reducible exact lsub_n | with_reducible refine lsub_c ?_ ?_ | with_reducible refine lk_hit ?_ | with_reducible refine lk_miss (by decide) ?_ ?_ | (first | exact rfl | exact congrArg Value.int (b2c_f hzq).symm | exact congrArg Value.int (b2c_t hzq).symm))) (IH (k + 1) _ ⟨by omega, hnr, fun u => absurd u b24⟩ (by omega))
        · skip
          rw [nI_eq (by omega) (by omega)] at b35
          refine v_aload_n dX4_isStoryWith_38 rfl rfl ?_
          refine v_iload_n dX4_isStoryWith_39 rfl rfl ?_
          refine v_iload_n dX4_isStoryWith_40 rfl rfl ?_
          refine v_iload_n dX4_isStoryWith_41 rfl rfl ?_
          refine v_iconst (v := 1) dX4_isStoryWith_42 (by decide) ?_
          refine v_iload dX4_isStoryWith_43 rfl ?_
          refine v_ishl dX4_isStoryWith_45 ?_
          rw [sh_1 (by omega)]
          refine v_zV mtX4_isStory q2089 q2091 qs102 rfl (by decide) dX4_isStoryWith_46 (c_X4_isStory (f := 2 ^ k) hv (r6_LD hL hrr) (RP_r6 hrr hR) hr (by rw [hrr.2.2.2.2.1 259 (by decide)]; exact h0) (WX_r6 hW hrr) hw hp (Nat.lt_of_lt_of_le (Nat.pow_lt_pow_right (by decide) (by omega : k < 9)) (Nat.le_refl (2 ^ 9)))) (mK_obj hm) (by decide) (fun r46 h46 q46 z46 => ?_)
          obtain ⟨rfl, hr6⟩ := q46
          rw [propext (sto_r6 hrr)]
          refine v_if_eq (tgt := 56) dX4_isStoryWith_49 (by decide) (fun b49 => ?_) (fun b49 => ?_)
          · skip
            rw [b2c_0] at b49
            have hzq : ¬ (sto_ A C nC sN S h r w p 0 ∨ ∃ q, q < (k + 1) ∧ ¬ q = p ∧ sto_ A C nC sN S h r w p (2 ^ q)) := fun z => b29x (z.elim Or.inl (fun ⟨q, h1, h2⟩ => (Nat.lt_succ_iff_lt_or_eq.mp h1).elim (fun y => Or.inr ⟨q, y, h2⟩) (fun y => by subst y; exact absurd h2.2 b49)))
            have hnr := r6_tr hrr hr6
            refine v_iconst (v := 0) dX4_isStoryWith_56 (by decide) ?_
            refine v_istore dX4_isStoryWith_57 (by decide) ?_
            refine v_iinc dX4_isStoryWith_59 rfl (by first | with_reducible exact nI_inc _ | exact rfl) (by decide) ?_
            refine v_goto (tgt := 13) dX4_isStoryWith_62 (by decide) ?_
            refine v_loc2 (by repeat' (first | with_reducible exact lsub_n | with_reducible refine lsub_c ?_ ?_ | with_reducible refine lk_hit ?_ | with_reducible refine lk_miss (by decide) ?_ ?_ | (first | exact rfl | exact congrArg Value.int (b2c_f hzq).symm | exact congrArg Value.int (b2c_t hzq).symm))) (IH (k + 1) _ ⟨by omega, hnr, fun u => absurd u b24⟩ (by omega))
          · skip
            rw [b2c_n0] at b49
            have hzq : (sto_ A C nC sN S h r w p 0 ∨ ∃ q, q < (k + 1) ∧ ¬ q = p ∧ sto_ A C nC sN S h r w p (2 ^ q)) := Or.inr ⟨k, by omega, b35, b49⟩
            have hnr := r6_tr hrr hr6
            refine v_iconst (v := 1) dX4_isStoryWith_52 (by decide) ?_
            refine v_goto (tgt := 57) dX4_isStoryWith_53 (by decide) ?_
            refine v_istore dX4_isStoryWith_57 (by decide) ?_
            refine v_iinc dX4_isStoryWith_59 rfl (by first | with_reducible exact nI_inc _ | exact rfl) (by decide) ?_
            refine v_goto (tgt := 13) dX4_isStoryWith_62 (by decide) ?_
            refine v_loc2 (by repeat' (first | with_reducible exact lsub_n | with_reducible refine lsub_c ?_ ?_ | with_reducible refine lk_hit ?_ | with_reducible refine lk_miss (by decide) ?_ ?_ | (first | exact rfl | exact congrArg Value.int (b2c_f hzq).symm | exact congrArg Value.int (b2c_t hzq).symm))) (IH (k + 1) _ ⟨by omega, hnr, fun u => absurd u b24⟩ (by omega))

set_option maxHeartbeats 1000000 in
theorem c_X4_doesClose {G : Gv} {h : AH} {sN nC : Nat} (hS : MS_ h sN nC) {nW th g s e : Nat} (hW : WX_ h nW) (S : Int32) (hth : th < nLaid (hp_I h 243)) (hg : g ≤ sN) (hse : s ≤ e) (he : e < 100) : Ctr G 7 yX4_doesClose cX4_doesClose 8 (some .boolean) [.ref 241, .int S, .int (nI th), .int (nI g), .int (nI s), .int (nI e)] h 0 0 (fun q h1 => q = some (.int (b2c (dc_ (hp_I h 243) (ct_ h) nC sN S h nW th g s e))) ∧ fx_ h h1) := by
  refine ctr_of (own := RX4) (nm := "doesClose") (by decide) (Nat.le_of_ble_eq_true rfl) ?_
  have hm := hS.1
  have hv := hS.2.2.1
  have h3 := sv_s hv
  have hW2 := hW.2.1
  refine v_aload_n dX4_doesClose_0 rfl rfl ?_
  refine v_iload_n dX4_doesClose_1 rfl rfl ?_
  refine v_zV mtX4_lays q1855 q1857 qs65 rfl (by decide) dX4_doesClose_2 (c_lays hS _) (mK_obj hm) (by decide) (fun r2 h2 q2 z2 => ?_)
  obtain ⟨rfl, hL0⟩ := q2
  have hL : LD_ (hp_I h 243) (ct_ h) nC sN S h2 := LY_LD hS hL0
  have hm : MI h2 := hL.1
  have hfx := fx_fr hL0.1
  refine v_iconst (v := 0) dX4_doesClose_5 (by decide) ?_
  refine v_istore dX4_doesClose_6 (by decide) ?_
  refine v_loc2 (by repeat' (first | with_reducible exact lsub_n | with_reducible refine lsub_c ?_ ?_ | with_reducible refine lk_hit ?_ | with_reducible refine lk_miss (by decide) ?_ ?_ | exact rfl)) (v_lp2 (fun (w : Nat) (hh : AH) => nW - w) (fun (w : Nat) (hh : AH) => w ≤ nW ∧ r6_ h2 hh ∧ ∀ i, i < w → ∀ p, p < sN → fiv_ (hp_I h 243) (ct_ h) nC sN S h i p 0 th g s e = -1) (fun (w : Nat) (hh : AH) => [(0, .ref 241), (1, .int S), (2, .int (nI th)), (3, .int (nI g)), (4, .int (nI s)), (5, .int (nI e)), (6, .int (nI w))]) (fun (w : Nat) (hh : AH) => hh) ?_ 0 _ ⟨Nat.zero_le _, r6_rf _, fun i hi => absurd hi (Nat.not_lt_zero i)⟩)
  intro w hh hI IH
  obtain ⟨hI1, hr, hI2⟩ := hI
  have hm : MI hh := r6_m hr hL.1
  refine v_iload dX4_doesClose_8 rfl ?_
  refine v_aload_n dX4_doesClose_10 rfl rfl ?_
  refine v_getI fX4_297 dX4_doesClose_11 (mK_obj hm) ?_
  rw [hr.2.2.2.2.2 15 (by omega), hfx.2.2.2.2.2 15 (by omega), hW.1]
  refine v_icmp_ge (tgt := 62) dX4_doesClose_14 (by decide) (fun b14 => ?_) (fun b14 => ?_)
  · skip
    rw [nI_leI (by omega) (by omega)] at b14
    have hk : nW = w := by omega
    refine v_iconst (v := 1) dX4_doesClose_62 (by decide) ?_
    exact v_reti dX4_doesClose_63 (by first | rfl | exact rt_c | exact rt_z | exact Or.inr rfl) ⟨congrArg (fun z => some (Value.int z)) (b2c_t (fun i h1 => hI2 i (by omega))).symm, fx_tr hfx (fx_r6 hr)⟩
  · skip
    rw [nI_leI (by omega) (by omega)] at b14
    have hk : w < nW := by omega
    refine v_iconst (v := 0) dX4_doesClose_17 (by decide) ?_
    refine v_istore dX4_doesClose_18 (by decide) ?_
    refine v_loc2 (by repeat' (first | with_reducible exact lsub_n | with_reducible refine lsub_c ?_ ?_ | with_reducible refine lk_hit ?_ | with_reducible refine lk_miss (by decide) ?_ ?_ | exact rfl)) (v_lp2 (fun (p : Nat) (hi : AH) => sN - p) (fun (p : Nat) (hi : AH) => p ≤ sN ∧ r6_ h2 hi ∧ ∀ q, q < p → fiv_ (hp_I h 243) (ct_ h) nC sN S h w q 0 th g s e = -1) (fun (p : Nat) (hi : AH) => [(0, .ref 241), (1, .int S), (2, .int (nI th)), (3, .int (nI g)), (4, .int (nI s)), (5, .int (nI e)), (6, .int (nI w)), (7, .int (nI p))]) (fun (p : Nat) (hi : AH) => hi) ?_ 0 _ ⟨Nat.zero_le _, hr, fun i hi => absurd hi (Nat.not_lt_zero i)⟩)
    intro p hi hJ IHj
    obtain ⟨hJ1, hrr, hJ2⟩ := hJ
    have hm : MI hi := r6_m hrr hL.1
    refine v_iload dX4_doesClose_20 rfl ?_
    refine v_aload_n dX4_doesClose_22 rfl rfl ?_
    refine v_getI fX4_24 dX4_doesClose_23 (mK_obj hm) ?_
    rw [hrr.2.2.2.2.2 4 (by omega), hL.2.1]
    refine v_icmp_ge (tgt := 56) dX4_doesClose_26 (by decide) (fun b26 => ?_) (fun b26 => ?_)
    · skip
      rw [nI_leI (by omega) (by omega)] at b26
      have hk2 : sN = p := by omega
      refine v_iinc dX4_doesClose_56 rfl (by first | with_reducible exact nI_inc _ | exact rfl) (by decide) ?_
      refine v_goto (tgt := 8) dX4_doesClose_59 (by decide) ?_
      refine v_loc2 (by repeat' (first | with_reducible exact lsub_n | with_reducible refine lsub_c ?_ ?_ | with_reducible refine lk_hit ?_ | with_reducible refine lk_miss (by decide) ?_ ?_ | exact rfl)) (IH (w + 1) _ ⟨by omega, hrr, fun i hi => (Nat.lt_succ_iff_lt_or_eq.mp hi).elim (hI2 i) (fun y => by rw [y]; exact fun p hp => hJ2 p (by omega))⟩ (by omega))
    · skip
      rw [nI_leI (by omega) (by omega)] at b26
      have hk2 : p < sN := by omega
      obtain ⟨kn, hst, hwk⟩ := (WX_r6 (fx_WX hW hfx) hrr).2.2 w hk
      refine v_aload_n dX4_doesClose_29 rfl rfl ?_
      refine v_iload dX4_doesClose_30 rfl ?_
      refine v_iload dX4_doesClose_32 rfl ?_
      refine v_iconst (v := nI 0) dX4_doesClose_34 (by decide) ?_
      refine v_iload_n dX4_doesClose_35 rfl rfl ?_
      refine v_iload_n dX4_doesClose_36 rfl rfl ?_
      refine v_iload dX4_doesClose_37 rfl ?_
      refine v_iload dX4_doesClose_39 rfl ?_
      refine v_zV mtX4_fitsAt q2004 q2006 qs86 rfl (by decide) dX4_doesClose_41 (c_X4_fitsAt (k := kn) (w := w) (p := p) (f := 0) (th := th) (g := g) (s := s) (e := e) hv (r6_LD hL hrr) hk2 (by decide) hth hg hse he (by omega) hst hwk) (mK_obj hm) (by decide) (fun r41 h41 q41 z41 => ?_)
      obtain ⟨rfl, hr6⟩ := q41
      rw [fiv_k hst hwk.1, fiv_r6 hrr, fiv_fx hfx]
      have hr9 := r6_tr hrr hr6
      refine v_iconst (v := (-1)) dX4_doesClose_44 (by decide) ?_
      refine v_icmp_eq (tgt := 50) dX4_doesClose_45 (by decide) (fun b45 => ?_) (fun b45 => ?_)
      · skip
        refine v_iinc dX4_doesClose_50 rfl (by first | with_reducible exact nI_inc _ | exact rfl) (by decide) ?_
        refine v_goto (tgt := 20) dX4_doesClose_53 (by decide) ?_
        refine v_loc2 (by repeat' (first | with_reducible exact lsub_n | with_reducible refine lsub_c ?_ ?_ | with_reducible refine lk_hit ?_ | with_reducible refine lk_miss (by decide) ?_ ?_ | exact rfl)) (IHj (p + 1) _ ⟨by omega, hr9, fun q hq => (Nat.lt_succ_iff_lt_or_eq.mp hq).elim (hJ2 q) (fun y => by rw [y]; exact b45)⟩ (by omega))
      · skip
        refine v_iconst (v := 0) dX4_doesClose_48 (by decide) ?_
        exact v_reti dX4_doesClose_49 (by first | rfl | exact rt_c | exact rt_z | exact Or.inr rfl) ⟨congrArg (fun z => some (Value.int z)) (b2c_f (fun z => b45 (z w hk p hk2))).symm, fx_tr hfx (fx_r6 hr9)⟩

