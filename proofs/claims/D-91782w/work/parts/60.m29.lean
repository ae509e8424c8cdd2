set_option maxRecDepth 100000
theorem sc_and {P Q : Nat → Prop} {n : Nat} : sc_ P n &&& sc_ Q n = sc_ (fun x => P x ∧ Q x) n := by
  refine Nat.eq_of_testBit_eq fun k => ?_
  rw [Bool.eq_iff_iff, Nat.testBit_and, Bool.and_eq_true, sc_bit, sc_bit, sc_bit]
  exact ⟨fun z => ⟨z.1.1, z.1.2, z.2.2⟩, fun z => ⟨⟨z.1, z.2.1⟩, z.1, z.2.2⟩⟩
theorem sc_or {P Q : Nat → Prop} {n : Nat} : sc_ P n ||| sc_ Q n = sc_ (fun x => P x ∨ Q x) n := by
  refine Nat.eq_of_testBit_eq fun k => ?_
  rw [Bool.eq_iff_iff, Nat.testBit_or, Bool.or_eq_true, sc_bit, sc_bit, sc_bit]
  exact ⟨fun z => z.elim (fun y => ⟨y.1, Or.inl y.2⟩) (fun y => ⟨y.1, Or.inr y.2⟩), fun z => z.2.elim (fun y => Or.inl ⟨z.1, y⟩) (fun y => Or.inr ⟨z.1, y⟩)⟩
theorem sc_one {n x : Nat} (h : x < n) : sc_ (fun y => y = x) n = 2 ^ x := by
  refine Nat.eq_of_testBit_eq fun k => ?_
  rw [Bool.eq_iff_iff, sc_bit, Nat.testBit_two_pow, decide_eq_true_eq]
  exact ⟨fun z => z.2.symm, fun z => by subst z; exact ⟨h, rfl⟩⟩
theorem sc_10 {P : Nat → Prop} {n : Nat} (h : n ≤ 10) : sc_ P n < 1024 := Nat.lt_of_lt_of_le (sc_lt P n) (Nat.pow_le_pow_right (by decide) h : 2 ^ n ≤ 2 ^ 10)
/-- a spot that nobody out of a set sees -/
def us_ (A : Nat → Int32) (C : Nat → Nat → Int32) (nC sN : Nat) (S : Int32) (P x t : Nat) : Prop := ∀ q, q < sN → see_ A C nC S q (nI x) t → P.testBit q = true
/-- a spot of the bridge of a hand -/
def br_ (A : Nat → Int32) (C : Nat → Nat → Int32) (nC sN : Nat) (S : Int32) (P a t x : Nat) : Prop := P.testBit (a / 2) = true ∧ free_ A C nC sN S a t ∧ (∀ q, q < sN → vch_ A C nC S 2870 a q t → P.testBit q = true) ∧ us_ A C nC sN S P x t ∧ rc_ sN (a / 2) x
/-- spots reached within so many seconds -/
def hr_ (B : Nat → Nat → Nat → Prop) (n2 sN x0 a : Nat) : Nat → Nat → Prop
  | 0, x => x = x0
  | k + 1, x => hr_ B n2 sN x0 a k x ∨ ∃ i, i < n2 ∧ B i (a + k) x ∧ ∃ z, z < sN + 1 ∧ B i (a + k) z ∧ hr_ B n2 sN x0 a k z
theorem hr_s (B : Nat → Nat → Nat → Prop) (n2 sN x0 a k x : Nat) : hr_ B n2 sN x0 a (k + 1) x ↔ (hr_ B n2 sN x0 a k x ∨ ∃ i, i < n2 ∧ B i (a + k) x ∧ ∃ z, z < sN + 1 ∧ B i (a + k) z ∧ hr_ B n2 sN x0 a k z) := Iff.rfl
theorem hr_le {B : Nat → Nat → Nat → Prop} {n2 sN x0 a k x : Nat} (h : hr_ B n2 sN x0 a k x) : ∀ j, hr_ B n2 sN x0 a (k + j) x
  | 0 => h
  | j + 1 => Or.inl (hr_le h j)
/-- the same within a second, of the first hands -/
def hn_ (B : Nat → Nat → Nat → Prop) (n2 sN x0 a k m x : Nat) : Prop := hr_ B n2 sN x0 a k x ∨ ∃ i, i < m ∧ B i (a + k) x ∧ ∃ z, z < sN + 1 ∧ B i (a + k) z ∧ hr_ B n2 sN x0 a k z
theorem nI_ldec {l t : Nat} (hl : l < 2 ^ 31) (ht : t < 2 ^ 31) : nI l - 1 ≤ nI t ↔ l ≤ t + 1 := by
  rcases l with _ | l
  · rw [show nI 0 - 1 = (-1 : Int32) from by decide]
    refine ⟨fun _ => by omega, fun _ => ?_⟩
    have : (0 : Int32) ≤ nI t := Int32.not_lt.mp (nI_pos ht)
    exact Int32.le_trans (by decide) this
  · rw [nI_pred, nI_leI (by omega) ht]
    omega
theorem c_X4_unseen {G : Gv} {h : AH} {A : Nat → Int32} {C : Nat → Nat → Int32} {sN nC : Nat} {S : Int32} (hv : sv_ok A sN) (hL : LD_ A C nC sN S h) {P t : Nat} (hP : P < 512) (ht : t < 100) : Ctr G 1 yX4_unseen cX4_unseen 5 (some .int) [.ref 241, .int (nI P), .int (nI t)] h 0 0 (Pu h (.int (nI (sc_ (fun x => us_ A C nC sN S P x t) (sN + 1))))) := by
  refine ctr_of (own := RX4) (nm := "unseen") (by decide) (Nat.le_of_ble_eq_true rfl) ?_
  have hm := hL.1
  have hs := hL.2.1
  have hA := hL.2.2.1
  have h3 := sv_s hv
  refine v_iconst (v := 0) dX4_unseen_0 (by decide) ?_
  refine v_istore_n dX4_unseen_1 rfl (by decide) ?_
  refine v_iconst (v := 0) dX4_unseen_2 (by decide) ?_
  refine v_istore dX4_unseen_3 (by decide) ?_
  refine v_loc2 (by repeat' (first | with_reducible exact lsub_n | with_reducible refine lsub_c ?_ ?_ | with_reducible refine lk_hit ?_ | with_reducible refine lk_miss (by decide) ?_ ?_ | exact rfl)) (v_lp1 (fun (k : Nat) => sN + 1 - k) (fun (k : Nat) => k ≤ sN + 1) (fun (k : Nat) => [(0, .ref 241), (1, .int (nI P)), (2, .int (nI t)), (3, .int (nI (sc_ (fun x => us_ A C nC sN S P x t) k))), (4, .int (nI k))]) (fun _ => []) (fun (k : Nat) => h) ?_ 0 (Nat.zero_le _))
  intro k hI IH
  refine v_iload dX4_unseen_5 rfl ?_
  refine v_aload_n dX4_unseen_7 rfl rfl ?_
  refine v_getI fX4_24 dX4_unseen_8 (mK_obj hm) ?_
  rw [hs]
  refine v_icmp_gt (tgt := 46) dX4_unseen_11 (by decide) (fun b11 => ?_) (fun b11 => ?_)
  · skip
    rw [nI_ltI (by omega) (by omega)] at b11
    have hk : sN + 1 = k := by omega
    subst hk
    refine v_iload_n dX4_unseen_46 rfl rfl ?_
    exact v_reti dX4_unseen_47 rfl (Pu_i rfl)
  · skip
    rw [nI_ltI (by omega) (by omega)] at b11
    have hk : k ≤ sN := by omega
    refine v_aload_n dX4_unseen_14 rfl rfl ?_
    refine v_getR fX4_33 dX4_unseen_15 (mK_obj hm) (mR_watched hm) ?_ fcA_I
    refine v_bipush (v := 100) dX4_unseen_18 (by decide) ?_
    refine v_iload dX4_unseen_20 rfl ?_
    refine v_imul dX4_unseen_22 ?_
    refine v_iload_n dX4_unseen_23 rfl rfl ?_
    refine v_iadd dX4_unseen_24 ?_
    refine v_iald dX4_unseen_25 (mK_watched hm) (ix_add (ix_mul (ix_lit _) rfl) rfl) (by first | assumption | omega) ?_
    rw [LD_wat hL hk ht]
    refine v_iload_n dX4_unseen_26 rfl rfl ?_
    refine v_iconst (v := (-1)) dX4_unseen_27 (by decide) ?_
    refine v_ixor dX4_unseen_28 ?_
    refine v_iand dX4_unseen_29 ?_
    rw [and_cm (wa_lt h3.2)]
    refine v_if_ne (tgt := 40) dX4_unseen_30 (by decide) (fun b30 => ?_) (fun b30 => ?_)
    · skip
      rw [show (0 : Int32) = nI 0 from rfl, nI_eq (Nat.lt_of_le_of_lt Nat.and_le_left (Nat.lt_trans (wa_lt h3.2) (by decide))) (by decide), and0 (wa_lt h3.2)] at b30
      have hq : ¬ (fun x => us_ A C nC sN S P x t) k := fun z => b30 (fun q hq => z q (wa_bit.mp hq).1 (wa_bit.mp hq).2)
      refine v_iinc dX4_unseen_40 rfl (by first | with_reducible exact nI_inc _ | exact rfl) (by decide) ?_
      refine v_goto (tgt := 5) dX4_unseen_43 (by decide) ?_
      refine v_loc2 (l' := [(0, .ref 241), (1, .int (nI P)), (2, .int (nI t)), (3, .int (nI (sc_ (fun x => us_ A C nC sN S P x t) (k + 1)))), (4, .int (nI (k + 1)))]) (by (first | rw [sc_st (P := (fun x => us_ A C nC sN S P x t)) hq] | rw [sc_sf (P := (fun x => us_ A C nC sN S P x t)) hq]); exact (by repeat' (first | with_reducible exact lsub_n | with_reducible refine lsub_c ?_ ?_ | with_reducible refine lk_hit ?_ | with_reducible refine lk_miss (by decide) ?_ ?_ | exact rfl))) (IH (k + 1) (by omega) (by omega))
    · skip
      rw [show (0 : Int32) = nI 0 from rfl, nI_eq (Nat.lt_of_le_of_lt Nat.and_le_left (Nat.lt_trans (wa_lt h3.2) (by decide))) (by decide), and0 (wa_lt h3.2)] at b30
      have hq : (fun x => us_ A C nC sN S P x t) k := fun q hq hs => b30 q (wa_bit.mpr ⟨hq, hs⟩)
      refine v_iload_n dX4_unseen_33 rfl rfl ?_
      refine v_iconst (v := 1) dX4_unseen_34 (by decide) ?_
      refine v_iload dX4_unseen_35 rfl ?_
      refine v_ishl dX4_unseen_37 ?_
      refine v_ior dX4_unseen_38 ?_
      rw [or_sh (by omega)]
      refine v_istore_n dX4_unseen_39 rfl (by decide) ?_
      refine v_iinc dX4_unseen_40 rfl (by first | with_reducible exact nI_inc _ | exact rfl) (by decide) ?_
      refine v_goto (tgt := 5) dX4_unseen_43 (by decide) ?_
      refine v_loc2 (l' := [(0, .ref 241), (1, .int (nI P)), (2, .int (nI t)), (3, .int (nI (sc_ (fun x => us_ A C nC sN S P x t) (k + 1)))), (4, .int (nI (k + 1)))]) (by (first | rw [sc_st (P := (fun x => us_ A C nC sN S P x t)) hq] | rw [sc_sf (P := (fun x => us_ A C nC sN S P x t)) hq]); exact (by repeat' (first | with_reducible exact lsub_n | with_reducible refine lsub_c ?_ ?_ | with_reducible refine lk_hit ?_ | with_reducible refine lk_miss (by decide) ?_ ?_ | exact rfl))) (IH (k + 1) (by omega) (by omega))

theorem c_X4_reached {G : Gv} {h : AH} (hm : MI h) {sN p : Nat} (hs : hp_I h 241 4 = nI sN) (h3 : 3 ≤ sN ∧ sN ≤ 9) (hp : p < 1000) : Ctr G 3 yX4_reached cX4_reached 4 (some .int) [.ref 241, .int (nI p)] h 0 0 (Pu h (.int (nI (sc_ (fun x => rc_ sN p x) (sN + 1))))) := by
  refine ctr_of (own := RX4) (nm := "reached") (by decide) (Nat.le_of_ble_eq_true rfl) ?_
  refine v_iconst (v := 0) dX4_reached_0 (by decide) ?_
  refine v_istore_n dX4_reached_1 rfl (by decide) ?_
  refine v_iconst (v := 0) dX4_reached_2 (by decide) ?_
  refine v_istore_n dX4_reached_3 rfl (by decide) ?_
  refine v_loc2 (by repeat' (first | with_reducible exact lsub_n | with_reducible refine lsub_c ?_ ?_ | with_reducible refine lk_hit ?_ | with_reducible refine lk_miss (by decide) ?_ ?_ | exact rfl)) (v_lp1 (fun (k : Nat) => sN + 1 - k) (fun (k : Nat) => k ≤ sN + 1) (fun (k : Nat) => [(0, .ref 241), (1, .int (nI p)), (2, .int (nI (sc_ (fun x => rc_ sN p x) k))), (3, .int (nI k))]) (fun _ => []) (fun (k : Nat) => h) ?_ 0 (Nat.zero_le _))
  intro k hI IH
  refine v_iload_n dX4_reached_4 rfl rfl ?_
  refine v_aload_n dX4_reached_5 rfl rfl ?_
  refine v_getI fX4_24 dX4_reached_6 (mK_obj hm) ?_
  rw [hs]
  refine v_icmp_gt (tgt := 33) dX4_reached_9 (by decide) (fun b9 => ?_) (fun b9 => ?_)
  · skip
    rw [nI_ltI (by omega) (by omega)] at b9
    have hk : sN + 1 = k := by omega
    subst hk
    refine v_iload_n dX4_reached_33 rfl rfl ?_
    exact v_reti dX4_reached_34 rfl (Pu_i rfl)
  · skip
    rw [nI_ltI (by omega) (by omega)] at b9
    have hk : k ≤ sN := by omega
    refine v_aload_n dX4_reached_12 rfl rfl ?_
    refine v_iload_n dX4_reached_13 rfl rfl ?_
    refine v_iload_n dX4_reached_14 rfl rfl ?_
    refine v_pV mtX4_reaches q1882 q1884 qs71 rfl (by decide) dX4_reached_15 (c_X4_reaches (p := p) (x := k) hm hs h3 (by omega) (by omega)) (mK_obj hm) (by decide) ?_
    refine v_if_eq (tgt := 27) dX4_reached_18 (by decide) (fun b18 => ?_) (fun b18 => ?_)
    · skip
      rw [b2i_0] at b18
      have hq : ¬ (fun x => rc_ sN p x) k := b18
      refine v_iinc dX4_reached_27 rfl (by first | with_reducible exact nI_inc _ | exact rfl) (by decide) ?_
      refine v_goto (tgt := 4) dX4_reached_30 (by decide) ?_
      refine v_loc2 (l' := [(0, .ref 241), (1, .int (nI p)), (2, .int (nI (sc_ (fun x => rc_ sN p x) (k + 1)))), (3, .int (nI (k + 1)))]) (by (first | rw [sc_st (P := (fun x => rc_ sN p x)) hq] | rw [sc_sf (P := (fun x => rc_ sN p x)) hq]); exact (by repeat' (first | with_reducible exact lsub_n | with_reducible refine lsub_c ?_ ?_ | with_reducible refine lk_hit ?_ | with_reducible refine lk_miss (by decide) ?_ ?_ | exact rfl))) (IH (k + 1) (by omega) (by omega))
    · skip
      rw [b2i_n0] at b18
      have hq : (fun x => rc_ sN p x) k := b18
      refine v_iload_n dX4_reached_21 rfl rfl ?_
      refine v_iconst (v := 1) dX4_reached_22 (by decide) ?_
      refine v_iload_n dX4_reached_23 rfl rfl ?_
      refine v_ishl dX4_reached_24 ?_
      refine v_ior dX4_reached_25 ?_
      rw [or_sh (by omega)]
      refine v_istore_n dX4_reached_26 rfl (by decide) ?_
      refine v_iinc dX4_reached_27 rfl (by first | with_reducible exact nI_inc _ | exact rfl) (by decide) ?_
      refine v_goto (tgt := 4) dX4_reached_30 (by decide) ?_
      refine v_loc2 (l' := [(0, .ref 241), (1, .int (nI p)), (2, .int (nI (sc_ (fun x => rc_ sN p x) (k + 1)))), (3, .int (nI (k + 1)))]) (by (first | rw [sc_st (P := (fun x => rc_ sN p x)) hq] | rw [sc_sf (P := (fun x => rc_ sN p x)) hq]); exact (by repeat' (first | with_reducible exact lsub_n | with_reducible refine lsub_c ?_ ?_ | with_reducible refine lk_hit ?_ | with_reducible refine lk_miss (by decide) ?_ ?_ | exact rfl))) (IH (k + 1) (by omega) (by omega))

theorem c_X4_bridge {G : Gv} {h : AH} {A : Nat → Int32} {C : Nat → Nat → Int32} {sN nC : Nat} {S : Int32} (hv : sv_ok A sN) (hL : LD_ A C nC sN S h) {P t : Nat} (hP : P < 512) (ht : t < 100) {a : Nat} (ha : a < 2 * sN) : Ctr G 4 yX4_bridge cX4_bridge 5 (some .int) [.ref 241, .int (nI P), .int (nI a), .int (nI t), .int (nI (sc_ (fun x => us_ A C nC sN S P x t) (sN + 1)))] h 0 0 (Pu h (.int (nI (sc_ (fun x => br_ A C nC sN S P a t x) (sN + 1))))) := by
  refine ctr_of (own := RX4) (nm := "bridge") (by decide) (Nat.le_of_ble_eq_true rfl) ?_
  have hm := hL.1
  have hs := hL.2.1
  have hA := hL.2.2.1
  have h3 := sv_s hv
  refine v_iload_n dX4_bridge_0 rfl rfl ?_
  refine v_iload_n dX4_bridge_1 rfl rfl ?_
  refine v_iconst (v := 2) dX4_bridge_2 (by decide) ?_
  refine v_idiv dX4_bridge_3 (by decide) ?_
  rw [show (nI a / 2 : Int32) = nI (a / 2) from pk_div (d := 2) (by omega) (by decide) (by decide)]
  refine v_pS mtX4_has q1859 q1860 dX4_bridge_4 (c_X4_has _ _) (by decide) ?_
  refine v_if_eq (tgt := 42) dX4_bridge_7 (by decide) (fun b7 => ?_) (fun b7 => ?_)
  · skip
    rw [b2i_0, has_bit (by omega) (by omega)] at b7
    have hq : ∀ x, ¬ br_ A C nC sN S P a t x := fun x z => b7 z.1
    refine v_iconst (v := 0) dX4_bridge_42 (by decide) ?_
    exact v_reti dX4_bridge_43 rfl (Pu_i (by rw [sc_n (fun k _ z => hq k z)]; rfl))
  · skip
    rw [b2i_n0, has_bit (by omega) (by omega)] at b7
    refine v_aload_n dX4_bridge_10 rfl rfl ?_
    refine v_getR fX4_45 dX4_bridge_11 (mK_obj hm) (mR_isFree hm) ?_ fcA_Z
    refine v_bipush (v := 100) dX4_bridge_14 (by decide) ?_
    refine v_iload_n dX4_bridge_16 rfl rfl ?_
    refine v_imul dX4_bridge_17 ?_
    refine v_iload_n dX4_bridge_18 rfl rfl ?_
    refine v_iadd dX4_bridge_19 ?_
    refine v_zald dX4_bridge_20 (mK_isFree hm) (ix_add (ix_mul (ix_lit _) rfl) rfl) (by first | assumption | omega) ?_
    rw [LD_free hL ha ht]
    refine v_if_eq (tgt := 42) dX4_bridge_21 (by decide) (fun b21 => ?_) (fun b21 => ?_)
    · skip
      rw [b2c_0] at b21
      have hq : ∀ x, ¬ br_ A C nC sN S P a t x := fun x z => b21 z.2.1
      refine v_iconst (v := 0) dX4_bridge_42 (by decide) ?_
      exact v_reti dX4_bridge_43 rfl (Pu_i (by rw [sc_n (fun k _ z => hq k z)]; rfl))
    · skip
      rw [b2c_n0] at b21
      refine v_aload_n dX4_bridge_24 rfl rfl ?_
      refine v_getR fX4_36 dX4_bridge_25 (mK_obj hm) (mR_vouched hm) ?_ fcA_I
      refine v_bipush (v := 100) dX4_bridge_28 (by decide) ?_
      refine v_iload_n dX4_bridge_30 rfl rfl ?_
      refine v_imul dX4_bridge_31 ?_
      refine v_iload_n dX4_bridge_32 rfl rfl ?_
      refine v_iadd dX4_bridge_33 ?_
      refine v_iald dX4_bridge_34 (mK_vouched hm) (ix_add (ix_mul (ix_lit _) rfl) rfl) (by first | assumption | omega) ?_
      rw [LD_vou hv hL ha ht]
      refine v_iload_n dX4_bridge_35 rfl rfl ?_
      refine v_iconst (v := (-1)) dX4_bridge_36 (by decide) ?_
      refine v_ixor dX4_bridge_37 ?_
      refine v_iand dX4_bridge_38 ?_
      rw [and_cm (vo_lt h3.2)]
      refine v_if_eq (tgt := 44) dX4_bridge_39 (by decide) (fun b39 => ?_) (fun b39 => ?_)
      · skip
        rw [show (0 : Int32) = nI 0 from rfl, nI_eq (Nat.lt_of_le_of_lt Nat.and_le_left (Nat.lt_trans (vo_lt h3.2) (by decide))) (by decide), and0 (vo_lt h3.2)] at b39
        have hvq : ∀ q, q < sN → vch_ A C nC S 2870 a q t → P.testBit q = true := fun q hq hv9 => b39 q ((sc_bit _ _ _).mpr ⟨hq, hv9⟩)
        refine v_iload dX4_bridge_44 rfl ?_
        refine v_aload_n dX4_bridge_46 rfl rfl ?_
        refine v_iload_n dX4_bridge_47 rfl rfl ?_
        refine v_iconst (v := 2) dX4_bridge_48 (by decide) ?_
        refine v_idiv dX4_bridge_49 (by decide) ?_
        rw [show (nI a / 2 : Int32) = nI (a / 2) from pk_div (d := 2) (by omega) (by decide) (by decide)]
        refine v_pV mtX4_reached q2120 q2122 qs107 rfl (by decide) dX4_bridge_50 (c_X4_reached (p := a / 2) hm hs h3 (by omega)) (mK_obj hm) (by decide) ?_
        refine v_iand dX4_bridge_53 ?_
        refine v_reti dX4_bridge_54 rfl (Pu_i ?_)
        rw [nI_and, sc_and]
        exact congrArg nI (sc_cg fun x _ => ⟨fun z => ⟨b7, b21, hvq, z.1, z.2⟩, fun z => z.2.2.2⟩)
      · skip
        rw [show (0 : Int32) = nI 0 from rfl, nI_eq (Nat.lt_of_le_of_lt Nat.and_le_left (Nat.lt_trans (vo_lt h3.2) (by decide))) (by decide), and0 (vo_lt h3.2)] at b39
        have hq : ∀ x, ¬ br_ A C nC sN S P a t x := fun x z => b39 (fun q hq => z.2.2.1 q ((sc_bit _ _ _).mp hq).1 ((sc_bit _ _ _).mp hq).2)
        refine v_iconst (v := 0) dX4_bridge_42 (by decide) ?_
        exact v_reti dX4_bridge_43 rfl (Pu_i (by rw [sc_n (fun k _ z => hq k z)]; rfl))

set_option maxHeartbeats 1000000 in
theorem c_X4_hasPass {G : Gv} {h : AH} {A : Nat → Int32} {C : Nat → Nat → Int32} {sN nC : Nat} {S : Int32} (hv : sv_ok A sN) (hL : LD_ A C nC sN S h) {P th g a b : Nat} (hP : P < 512) (hth : th < nLaid A) (hg : g ≤ sN) (hab : a ≤ b) (hb : b < 100) : Ctr G 6 yX4_hasPass cX4_hasPass 12 (some .boolean) [.ref 241, .int (nI th), .int (nI g), .int (nI P), .int (nI a), .int (nI b)] h 0 0 (Pu h (.int (b2c (hr_ (fun i τ x => br_ A C nC sN S P i τ x) (2 * sN) sN (wh_ A th (nI a) (nMov A)).toNatClampNeg a (b + 1 - a) g)))) := by
  refine ctr_of (own := RX4) (nm := "hasPass") (by decide) (Nat.le_of_ble_eq_true rfl) ?_
  have hm := hL.1
  have hs := hL.2.1
  have hA := hL.2.2.1
  have h3 := sv_s hv
  have hlaid := sv_laid hv
  obtain ⟨x0, hx0, ex0⟩ := wh_in (s := nI a) hv hth (nMov A) (Nat.le_refl _)
  refine v_iconst (v := 1) dX4_hasPass_0 (by decide) ?_
  refine v_aload_n dX4_hasPass_1 rfl rfl ?_
  refine v_iload_n dX4_hasPass_2 rfl rfl ?_
  refine v_iload dX4_hasPass_3 rfl ?_
  refine v_pV mtX4_ahead q1874 q1876 qs69 rfl (by decide) dX4_hasPass_5 (c_X4_ahead (thing := th) hm (sN := sN) (by rw [hA]; exact hv) (by omega) _) (mK_obj hm) (by decide) ?_
  rw [hA, ex0]
  refine v_ishl dX4_hasPass_8 ?_
  rw [sh_1 (by omega), ← sc_one (n := sN + 1) hx0]
  refine v_istore dX4_hasPass_9 (by decide) ?_
  refine v_iload dX4_hasPass_11 rfl ?_
  refine v_istore dX4_hasPass_13 (by decide) ?_
  refine v_loc2 (by repeat' (first | with_reducible exact lsub_n | with_reducible refine lsub_c ?_ ?_ | with_reducible refine lk_hit ?_ | with_reducible refine lk_miss (by decide) ?_ ?_ | exact rfl)) (v_lp1 (fun (k : Nat) => b + 1 - a - k) (fun (k : Nat) => k ≤ b + 1 - a) (fun (k : Nat) => [(0, .ref 241), (1, .int (nI th)), (2, .int (nI g)), (3, .int (nI P)), (4, .int (nI a)), (5, .int (nI b)), (6, .int (nI (sc_ (hr_ (fun i τ x => br_ A C nC sN S P i τ x) (2 * sN) sN x0 a k) (sN + 1)))), (7, .int (nI (a + k)))]) (fun _ => []) (fun (k : Nat) => h) ?_ 0 (Nat.zero_le _))
  intro k hI IHk
  refine v_iload dX4_hasPass_15 rfl ?_
  refine v_iload dX4_hasPass_17 rfl ?_
  refine v_icmp_gt (tgt := 102) dX4_hasPass_19 (by decide) (fun b19 => ?_) (fun b19 => ?_)
  · skip
    rw [nI_ltI (by omega) (by omega)] at b19
    have hk : b + 1 - a = k := by omega
    have hq : hr_ (fun i τ x => br_ A C nC sN S P i τ x) (2 * sN) sN x0 a k g ↔ hr_ (fun i τ x => br_ A C nC sN S P i τ x) (2 * sN) sN x0 a (b + 1 - a) g := by rw [hk]
    refine v_iload dX4_hasPass_102 rfl ?_
    refine v_iload_n dX4_hasPass_104 rfl rfl ?_
    refine v_pS mtX4_has q1859 q1860 dX4_hasPass_105 (c_X4_has _ _) (by decide) ?_
    refine v_reti dX4_hasPass_108 (by first | rfl | exact rt_c | exact rt_z | exact Or.inr rfl) (Pu_i ?_)
    rw [nI_clamp (by omega)]
    refine b2i_b2c ⟨fun z => ?_, fun z => ?_⟩
    · rw [has_bit (Nat.lt_trans (sc_10 (by omega)) (by decide)) (by omega), sc_bit] at z; exact hq.mp z.2
    · rw [has_bit (Nat.lt_trans (sc_10 (by omega)) (by decide)) (by omega), sc_bit]; exact ⟨by omega, hq.mpr z⟩
  · skip
    rw [nI_ltI (by omega) (by omega)] at b19
    have hk : a + k ≤ b := by omega
    refine v_iload dX4_hasPass_22 rfl ?_
    refine v_iload_n dX4_hasPass_24 rfl rfl ?_
    refine v_pS mtX4_has q1859 q1860 dX4_hasPass_25 (c_X4_has _ _) (by decide) ?_
    refine v_if_ne (tgt := 102) dX4_hasPass_28 (by decide) (fun b28 => ?_) (fun b28 => ?_)
    · skip
      rw [b2i_n0, has_bit (Nat.lt_trans (sc_10 (by omega)) (by decide)) (by omega), sc_bit] at b28
      have hq : hr_ (fun i τ x => br_ A C nC sN S P i τ x) (2 * sN) sN x0 a k g ↔ hr_ (fun i τ x => br_ A C nC sN S P i τ x) (2 * sN) sN x0 a (b + 1 - a) g := ⟨fun z => by have := hr_le z (b + 1 - a - k); rw [show k + (b + 1 - a - k) = b + 1 - a by omega] at this; exact this, fun _ => b28.2⟩
      refine v_iload dX4_hasPass_102 rfl ?_
      refine v_iload_n dX4_hasPass_104 rfl rfl ?_
      refine v_pS mtX4_has q1859 q1860 dX4_hasPass_105 (c_X4_has _ _) (by decide) ?_
      refine v_reti dX4_hasPass_108 (by first | rfl | exact rt_c | exact rt_z | exact Or.inr rfl) (Pu_i ?_)
      rw [nI_clamp (by omega)]
      refine b2i_b2c ⟨fun z => ?_, fun z => ?_⟩
      · rw [has_bit (Nat.lt_trans (sc_10 (by omega)) (by decide)) (by omega), sc_bit] at z; exact hq.mp z.2
      · rw [has_bit (Nat.lt_trans (sc_10 (by omega)) (by decide)) (by omega), sc_bit]; exact ⟨by omega, hq.mpr z⟩
    · skip
      rw [b2i_0, has_bit (Nat.lt_trans (sc_10 (by omega)) (by decide)) (by omega), sc_bit] at b28
      refine v_aload_n dX4_hasPass_31 rfl rfl ?_
      refine v_iload_n dX4_hasPass_32 rfl rfl ?_
      refine v_iload dX4_hasPass_33 rfl ?_
      refine v_pV mtX4_unseen q2112 q2114 qs105 rfl (by decide) dX4_hasPass_35 (c_X4_unseen (t := a + k) hv hL hP (by omega)) (mK_obj hm) (by decide) ?_
      refine v_istore dX4_hasPass_38 (by decide) ?_
      refine v_iload dX4_hasPass_40 rfl ?_
      refine v_istore dX4_hasPass_42 (by decide) ?_
      refine v_iconst (v := 0) dX4_hasPass_44 (by decide) ?_
      refine v_istore dX4_hasPass_45 (by decide) ?_
      refine v_loc2 (by repeat' (first | with_reducible exact lsub_n | with_reducible refine lsub_c ?_ ?_ | with_reducible refine lk_hit ?_ | with_reducible refine lk_miss (by decide) ?_ ?_ | (first | exact rfl | exact congrArg (fun z => Value.int (nI z)) (sc_cg fun x hx => ⟨Or.inl, fun z => z.elim id (fun ⟨i, y, _⟩ => absurd y (Nat.not_lt_zero i))⟩) | exact congrArg (fun z => some (Value.int (nI z))) (sc_cg fun x hx => ⟨Or.inl, fun z => z.elim id (fun ⟨i, y, _⟩ => absurd y (Nat.not_lt_zero i))⟩)))) (v_lp1 (fun (j : Nat) => 2 * sN - j) (fun (j : Nat) => j ≤ 2 * sN) (fun (j : Nat) => [(0, .ref 241), (1, .int (nI th)), (2, .int (nI g)), (3, .int (nI P)), (4, .int (nI a)), (5, .int (nI b)), (6, .int (nI (sc_ (hr_ (fun i τ x => br_ A C nC sN S P i τ x) (2 * sN) sN x0 a k) (sN + 1)))), (7, .int (nI (a + k))), (8, .int (nI (sc_ (fun x => us_ A C nC sN S P x (a + k)) (sN + 1)))), (9, .int (nI (sc_ (hn_ (fun i τ x => br_ A C nC sN S P i τ x) (2 * sN) sN x0 a k j) (sN + 1)))), (10, .int (nI j))]) (fun _ => []) (fun (j : Nat) => h) ?_ 0 (Nat.zero_le _))
      intro j hJ IHj
      refine v_iload dX4_hasPass_47 rfl ?_
      refine v_iconst (v := 2) dX4_hasPass_49 (by decide) ?_
      refine v_aload_n dX4_hasPass_50 rfl rfl ?_
      refine v_getI fX4_24 dX4_hasPass_51 (mK_obj hm) ?_
      rw [hs]
      refine v_imul dX4_hasPass_54 ?_
      rw [nI_2]
      refine v_icmp_ge (tgt := 92) dX4_hasPass_55 (by decide) (fun b55 => ?_) (fun b55 => ?_)
      · skip
        rw [nI_leI (by omega) (by omega)] at b55
        have hk2 : 2 * sN = j := by omega
        subst hk2
        refine v_iload dX4_hasPass_92 rfl ?_
        refine v_istore dX4_hasPass_94 (by decide) ?_
        refine v_iinc dX4_hasPass_96 rfl (by first | with_reducible exact nI_inc _ | exact rfl) (by decide) ?_
        refine v_goto (tgt := 15) dX4_hasPass_99 (by decide) ?_
        refine v_loc2 (by repeat' (first | with_reducible exact lsub_n | with_reducible refine lsub_c ?_ ?_ | with_reducible refine lk_hit ?_ | with_reducible refine lk_miss (by decide) ?_ ?_ | exact rfl)) (IHk (k + 1) (by omega) (by omega))
      · skip
        rw [nI_leI (by omega) (by omega)] at b55
        have hk2 : j < 2 * sN := by omega
        refine v_aload_n dX4_hasPass_58 rfl rfl ?_
        refine v_iload_n dX4_hasPass_59 rfl rfl ?_
        refine v_iload dX4_hasPass_60 rfl ?_
        refine v_iload dX4_hasPass_62 rfl ?_
        refine v_iload dX4_hasPass_64 rfl ?_
        refine v_pV mtX4_bridge q2116 q2118 qs106 rfl (by decide) dX4_hasPass_66 (c_X4_bridge (a := j) (t := a + k) hv hL hP (by omega) hk2) (mK_obj hm) (by decide) ?_
        refine v_istore dX4_hasPass_69 (by decide) ?_
        refine v_iload dX4_hasPass_71 rfl ?_
        refine v_iload dX4_hasPass_73 rfl ?_
        refine v_iand dX4_hasPass_75 ?_
        refine v_if_eq (tgt := 86) dX4_hasPass_76 (by decide) (fun b76 => ?_) (fun b76 => ?_)
        · skip
          rw [nI_and, sc_and, show (0 : Int32) = nI 0 from rfl, nI_eq (Nat.lt_trans (sc_10 (by omega)) (by decide)) (by decide), sc_z] at b76
          have hq : sc_ (hn_ (fun i τ x => br_ A C nC sN S P i τ x) (2 * sN) sN x0 a k j) (sN + 1) = sc_ (hn_ (fun i τ x => br_ A C nC sN S P i τ x) (2 * sN) sN x0 a k (j + 1)) (sN + 1) := sc_cg fun x hx => ⟨fun z => z.elim Or.inl (fun ⟨i, y1, y2⟩ => Or.inr ⟨i, by omega, y2⟩), fun z => z.elim Or.inl (fun ⟨i, y1, y2⟩ => (Nat.lt_succ_iff_lt_or_eq.mp y1).elim (fun u => Or.inr ⟨i, u, y2⟩) (fun u => by subst u; obtain ⟨_, w9, w1, w2, w3⟩ := y2; exact absurd ⟨w2, w3⟩ (b76 w9 w1)))⟩
          refine v_iinc dX4_hasPass_86 rfl (by first | with_reducible exact nI_inc _ | exact rfl) (by decide) ?_
          refine v_goto (tgt := 47) dX4_hasPass_89 (by decide) ?_
          refine v_loc2 (by repeat' (first | with_reducible exact lsub_n | with_reducible refine lsub_c ?_ ?_ | with_reducible refine lk_hit ?_ | with_reducible refine lk_miss (by decide) ?_ ?_ | (first | exact rfl | exact congrArg (fun z => Value.int (nI z)) hq | exact congrArg (fun z => some (Value.int (nI z))) hq | (rw [Nat.or_comm]; exact congrArg (fun z => Value.int (nI z)) hq)))) (IHj (j + 1) (by omega) (by omega))
        · skip
          rw [nI_and, sc_and, show (0 : Int32) = nI 0 from rfl, nI_eq (Nat.lt_trans (sc_10 (by omega)) (by decide)) (by decide), sc_z] at b76
          have hq : sc_ (hn_ (fun i τ x => br_ A C nC sN S P i τ x) (2 * sN) sN x0 a k j) (sN + 1) ||| sc_ (fun x => br_ A C nC sN S P j (a + k) x) (sN + 1) = sc_ (hn_ (fun i τ x => br_ A C nC sN S P i τ x) (2 * sN) sN x0 a k (j + 1)) (sN + 1) := by
           rw [sc_or]
           obtain ⟨w9, w1, w2, w3⟩ : ∃ z, z < sN + 1 ∧ br_ A C nC sN S P j (a + k) z ∧ hr_ (fun i τ x => br_ A C nC sN S P i τ x) (2 * sN) sN x0 a k z := Classical.byContradiction fun n => b76 (fun z hz y => n ⟨z, hz, y.1, y.2⟩)
           exact sc_cg fun x hx => ⟨fun z => z.elim (fun y => y.elim Or.inl (fun ⟨i, y1, y2⟩ => Or.inr ⟨i, by omega, y2⟩)) (fun y => Or.inr ⟨j, by omega, y, w9, w1, w2, w3⟩), fun z => z.elim (fun y => Or.inl (Or.inl y)) (fun ⟨i, y1, y2⟩ => (Nat.lt_succ_iff_lt_or_eq.mp y1).elim (fun u => Or.inl (Or.inr ⟨i, u, y2⟩)) (fun u => by subst u; exact Or.inr y2.1))⟩
          refine v_iload dX4_hasPass_79 rfl ?_
          refine v_iload dX4_hasPass_81 rfl ?_
          refine v_ior dX4_hasPass_83 ?_
          rw [nI_or]
          refine v_istore dX4_hasPass_84 (by decide) ?_
          refine v_iinc dX4_hasPass_86 rfl (by first | with_reducible exact nI_inc _ | exact rfl) (by decide) ?_
          refine v_goto (tgt := 47) dX4_hasPass_89 (by decide) ?_
          refine v_loc2 (by repeat' (first | with_reducible exact lsub_n | with_reducible refine lsub_c ?_ ?_ | with_reducible refine lk_hit ?_ | with_reducible refine lk_miss (by decide) ?_ ?_ | (first | exact rfl | exact congrArg (fun z => Value.int (nI z)) hq | exact congrArg (fun z => some (Value.int (nI z))) hq | (rw [Nat.or_comm]; exact congrArg (fun z => Value.int (nI z)) hq)))) (IHj (j + 1) (by omega) (by omega))

theorem c_X4_isInTime {G : Gv} {h : AH} (hm : MI h) {y j g t l : Nat} (hy : y < 10) (hj : j < 11) (hg : g < 10) (ht : t < 100) (hl : l < 200) (hla : 0 < j → hp_I h 261 (10 * j + y) = nI l - 1) : Ctr G 1 yX4_isInTime cX4_isInTime 5 (some .boolean) [.ref 241, .int (nI y), .int (nI j), .int (nI g), .int (nI t)] h 0 0 (Pu h (.int (b2c ((j = 0 ∧ y = g) ∨ (0 < j ∧ t + 1 < l))))) := by
  refine ctr_of (own := RX4) (nm := "isInTime") (by decide) (Nat.le_of_ble_eq_true rfl) ?_
  refine v_iload_n dX4_isInTime_0 rfl rfl ?_
  refine v_if_ne (tgt := 17) dX4_isInTime_1 (by decide) (fun b1 => ?_) (fun b1 => ?_)
  · skip
    have hj1 : 0 < j := Nat.pos_of_ne_zero (fun z => b1 (by rw [z]; rfl))
    refine v_aload_n dX4_isInTime_17 rfl rfl ?_
    refine v_getR fX4_79 dX4_isInTime_18 (mK_obj hm) (mR_latest hm) ?_ fcA_I
    refine v_bipush (v := 10) dX4_isInTime_21 (by decide) ?_
    refine v_iload_n dX4_isInTime_23 rfl rfl ?_
    refine v_imul dX4_isInTime_24 ?_
    refine v_iload_n dX4_isInTime_25 rfl rfl ?_
    refine v_iadd dX4_isInTime_26 ?_
    refine v_iald dX4_isInTime_27 (mK_latest hm) (ix_add (ix_mul (ix_lit _) rfl) rfl) (by first | assumption | omega) ?_
    refine v_iload dX4_isInTime_28 rfl ?_
    refine v_icmp_le (tgt := 37) dX4_isInTime_30 (by decide) (fun b30 => ?_) (fun b30 => ?_)
    · skip
      rw [hla hj1, nI_ldec (by omega) (by omega)] at b30
      have hq : ¬ ((j = 0 ∧ y = g) ∨ (0 < j ∧ t + 1 < l)) := fun z => by omega
      refine v_iconst (v := 0) dX4_isInTime_37 (by decide) ?_
      refine v_reti dX4_isInTime_38 (by first | rfl | exact rt_c | exact rt_z | exact Or.inr rfl) (Pu_i ?_)
      first | exact (b2c_t hq).symm | exact (b2c_f hq).symm
    · skip
      rw [hla hj1, nI_ldec (by omega) (by omega)] at b30
      have hq : ((j = 0 ∧ y = g) ∨ (0 < j ∧ t + 1 < l)) := Or.inr ⟨hj1, by omega⟩
      refine v_iconst (v := 1) dX4_isInTime_33 (by decide) ?_
      refine v_goto (tgt := 38) dX4_isInTime_34 (by decide) ?_
      refine v_reti dX4_isInTime_38 (by first | rfl | exact rt_c | exact rt_z | exact Or.inr rfl) (Pu_i ?_)
      first | exact (b2c_t hq).symm | exact (b2c_f hq).symm
  · skip
    have hj0 : j = 0 := (nI_eq (by omega) (by decide)).mp (show nI j = nI 0 from b1)
    refine v_iload_n dX4_isInTime_4 rfl rfl ?_
    refine v_iload_n dX4_isInTime_5 rfl rfl ?_
    refine v_icmp_ne (tgt := 13) dX4_isInTime_6 (by decide) (fun b6 => ?_) (fun b6 => ?_)
    · skip
      rw [nI_eq (by omega) (by omega)] at b6
      have hq : ¬ ((j = 0 ∧ y = g) ∨ (0 < j ∧ t + 1 < l)) := fun z => z.elim (fun u => b6 u.2) (fun u => by omega)
      refine v_iconst (v := 0) dX4_isInTime_13 (by decide) ?_
      refine v_goto (tgt := 38) dX4_isInTime_14 (by decide) ?_
      refine v_reti dX4_isInTime_38 (by first | rfl | exact rt_c | exact rt_z | exact Or.inr rfl) (Pu_i ?_)
      first | exact (b2c_t hq).symm | exact (b2c_f hq).symm
    · skip
      rw [nI_eq (by omega) (by omega)] at b6
      have hq : ((j = 0 ∧ y = g) ∨ (0 < j ∧ t + 1 < l)) := Or.inl ⟨hj0, b6⟩
      refine v_iconst (v := 1) dX4_isInTime_9 (by decide) ?_
      refine v_goto (tgt := 38) dX4_isInTime_10 (by decide) ?_
      refine v_reti dX4_isInTime_38 (by first | rfl | exact rt_c | exact rt_z | exact Or.inr rfl) (Pu_i ?_)
      first | exact (b2c_t hq).symm | exact (b2c_f hq).symm

