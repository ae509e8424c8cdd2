set_option maxRecDepth 100000
def on_ (n : Nat) : Nat := n % 2 + n / 2 % 2 + n / 4 % 2 + n / 8 % 2 + n / 16 % 2 + n / 32 % 2 + n / 64 % 2 + n / 128 % 2 + n / 256 % 2
theorem on_s : ∀ n, n < 512 → 0 < n → on_ n = 1 + on_ (n &&& (n - 1)) ∧ (n &&& (n - 1)) < n := by decide +kernel
theorem on_0 : on_ 0 = 0 := rfl
theorem on_le (n : Nat) : on_ n ≤ 9 := by unfold on_; omega
def ri_ (A T : Nat → Int32) (r : Nat) : Prop := (T (7 * r + 1) = 0 ∧ ∃ m, m < nMov A ∧ su_ A T m r 0) ∨ (¬ T (7 * r + 1) = 0 ∧ ∀ t, (T (7 * r + 4)).toNatClampNeg ≤ t → t ≤ (T (7 * r + 5)).toNatClampNeg → ha_ A 2870 (T (7 * r)).toNatClampNeg (T (7 * r + 2)) t)
noncomputable def un_ (H : Nat → Prop) (a : Nat) : Nat → Nat
  | 0 => 0
  | n + 1 => cf_ (H (a + n)) 0 (un_ H a n + 1)
theorem un_z (H : Nat → Prop) (a : Nat) : un_ H a 0 = 0 := rfl
theorem un_s (H : Nat → Prop) (a n : Nat) : un_ H a (n + 1) = cf_ (H (a + n)) 0 (un_ H a n + 1) := rfl
theorem un_le (H : Nat → Prop) (a : Nat) : ∀ n, un_ H a n ≤ n
  | 0 => Nat.le_refl _
  | n + 1 => by
    have := un_le H a n
    by_cases h : H (a + n)
    · rw [un_s, cf_t h]; omega
    · rw [un_s, cf_f h]; omega
def ho_ (A : Nat → Int32) (C : Nat → Nat → Int32) (T : Nat → Int32) (nC : Nat) (loss smooth : Int32) (r : Nat) : Prop :=
  (T (7 * r + 1) = 0 ∧ ∃ m, m < nMov A ∧ su_ A T m r (loss * T (7 * r + 6)) ∧ sw_ A C nC 0 m (T (7 * r)).toNatClampNeg) ∨
  (¬ T (7 * r + 1) = 0 ∧ ∀ n, n < (T (7 * r + 5)).toNatClampNeg + 1 - (T (7 * r + 4)).toNatClampNeg → nI (un_ (fun t => ha_ A 1070 (T (7 * r)).toNatClampNeg (T (7 * r + 2)) t) (T (7 * r + 4)).toNatClampNeg (n + 1)) ≤ smooth * T (7 * r + 6))
noncomputable def sp_right (h : AH) (x : Int32) : Int32 × AH := (cf_ (0 ≤ x ∧ x < hp_I h 241 42) (b2c (ri_ (hp_I h 243) (hp_I h 259) x.toNatClampNeg)) (-1), th_ h)
noncomputable def sp_honest (h : AH) (nC : Nat) (x : Int32) (hx : AH) : Int32 × AH := (cf_ (0 ≤ x ∧ x < hp_I h 241 42) (b2c (ho_ (hp_I h 243) (ct_ h) (hp_I h 259) nC (hp_I h 241 16) (hp_I h 241 17) x.toNatClampNeg)) (-1), hx)
def ag_ (T : Nat → Int32) (x y : Nat) : Prop := (T (7 * x + 1) = T (7 * y + 1) ∧ T (7 * x + 2) = T (7 * y + 2)) ∧ (T (7 * x + 1) = 1 ∨ (T (7 * x + 3) = T (7 * y + 3) ∧ T (7 * x + 4) ≤ T (7 * y + 5) ∧ T (7 * y + 4) ≤ T (7 * x + 5)))
noncomputable def sp_agree (h : AH) (x y : Int32) : Int32 × AH := (cf_ ((0 ≤ x ∧ x < hp_I h 241 42) ∧ (0 ≤ y ∧ y < hp_I h 241 42) ∧ ¬ x = y) (b2c (ag_ (hp_I h 259) x.toNatClampNeg y.toNatClampNeg)) (-1), th_ h)
def rd_ (h : AH) (nC : Nat) (p x : Int32) (r : Nat) : Prop := hp_I h 259 (7 * r) = p ∧ (x = 0 ∨ (x = 1 ∧ ri_ (hp_I h 243) (hp_I h 259) r) ∨ (x = 2 ∧ ho_ (hp_I h 243) (ct_ h) (hp_I h 259) nC (hp_I h 241 16) (hp_I h 241 17) r) ∨ (x = 3 ∧ ri_ (hp_I h 243) (hp_I h 259) r ∧ ¬ ho_ (hp_I h 243) (ct_ h) (hp_I h 259) nC (hp_I h 241 16) (hp_I h 241 17) r) ∨ (x = 4 ∧ ho_ (hp_I h 243) (ct_ h) (hp_I h 259) nC (hp_I h 241 16) (hp_I h 241 17) r ∧ ¬ ri_ (hp_I h 243) (hp_I h 259) r))
noncomputable def sp_record (h : AH) (nC : Nat) (p x : Int32) (hx : AH) : Int32 × AH := (cf_ ((0 ≤ p ∧ p < hp_I h 241 4) ∧ (0 ≤ x ∧ x ≤ 4)) (nI (gc_ (rd_ h nC p x) (hp_I h 241 42).toNatClampNeg)) (-1), hx)
theorem RP_fr {h h1 : AH} {nR sN : Nat} (a : fr_ h h1) (b : RP_ h nR sN) : RP_ h1 nR sN := by
  unfold RP_
  rw [fr_31 a, a.2.2.2.2 259 (Or.inr (by decide))]
  exact b
theorem c_X4_ones {G : Gv} {h : AH} {n : Nat} (hn : n < 512) : Ctr G 1 yX4_ones cX4_ones 3 (some .int) [.int (nI n)] h 0 0 (Pu h (.int (nI (on_ n)))) := by
  refine ctr_of (own := RX4) (nm := "ones") (by decide) (Nat.le_of_ble_eq_true rfl) ?_
  refine v_iconst (v := 0) dX4_ones_0 (by decide) ?_
  refine v_istore_n dX4_ones_1 rfl (by decide) ?_
  refine v_iload_n dX4_ones_2 rfl rfl ?_
  refine v_istore_n dX4_ones_3 rfl (by decide) ?_
  refine v_loc2 (by repeat' (first | with_reducible exact lsub_n | with_reducible refine lsub_c ?_ ?_ | with_reducible refine lk_hit ?_ | with_reducible refine lk_miss (by decide) ?_ ?_ | exact rfl)) (v_lp2 (fun (k : Nat) (c : Nat) => k) (fun (k : Nat) (c : Nat) => k < 512 ∧ c + on_ k = on_ n) (fun (k : Nat) (c : Nat) => [(0, .int (nI n)), (1, .int (nI c)), (2, .int (nI k))]) (fun (k : Nat) (c : Nat) => h) ?_ n 0 ⟨hn, Nat.zero_add _⟩)
  intro k c hI IH
  obtain ⟨hI1, hI2⟩ := hI
  refine v_iload_n dX4_ones_4 rfl rfl ?_
  refine v_if_eq (tgt := 20) dX4_ones_5 (by decide) (fun b5 => ?_) (fun b5 => ?_)
  · skip
    have hk : k = 0 := (nI_eq (b := 0) (by omega) (by decide)).mp b5
    subst hk
    rw [on_0] at hI2
    refine v_iload_n dX4_ones_20 rfl rfl ?_
    exact v_reti dX4_ones_21 rfl (Pu_i (by rw [← hI2]; rfl))
  · skip
    have hk : 0 < k := Nat.pos_of_ne_zero (fun z => b5 (by rw [z]; rfl))
    obtain ⟨hs1, hs2⟩ := on_s k hI1 hk
    refine v_iinc dX4_ones_8 rfl (by first | with_reducible exact nI_inc _ | exact rfl) (by decide) ?_
    refine v_iload_n dX4_ones_11 rfl rfl ?_
    refine v_iload_n dX4_ones_12 rfl rfl ?_
    refine v_iconst (v := 1) dX4_ones_13 (by decide) ?_
    refine v_isub dX4_ones_14 ?_
    rw [nI_sub1 hk]
    refine v_iand dX4_ones_15 ?_
    rw [nI_and]
    refine v_istore_n dX4_ones_16 rfl (by decide) ?_
    refine v_goto (tgt := 4) dX4_ones_17 (by decide) ?_
    refine v_loc2 (by repeat' (first | with_reducible exact lsub_n | with_reducible refine lsub_c ?_ ?_ | with_reducible refine lk_hit ?_ | with_reducible refine lk_miss (by decide) ?_ ?_ | exact rfl)) (IH (k &&& (k - 1)) (c + 1) ⟨by omega, by omega⟩ (by omega))

theorem c_X4_isRight {G : Gv} {h : AH} {sN nC nR : Nat} (hS : MS_ h sN nC) (hR : RP_ h nR sN) {r : Nat} (hr : r < nR) : Ctr G 3 yX4_isRight cX4_isRight 3 (some .boolean) [.ref 241, .int (nI r)] h 0 0 (Pu h (.int (b2c (ri_ (hp_I h 243) (hp_I h 259) r)))) := by
  refine ctr_of (own := RX4) (nm := "isRight") (by decide) (Nat.le_of_ble_eq_true rfl) ?_
  have hm := hS.1
  have hs := hS.2.1
  have hv := hS.2.2.1
  have h3 := sv_s hv
  obtain ⟨hM1, hM2⟩ := sv_mov hv
  have hR9 := hR.2.1
  obtain ⟨⟨pn, hpn, e0⟩, ek, ⟨an, bn, hab, hbn, e4, e5⟩, ⟨ln, hln, e6⟩⟩ := hR.2.2 r hr
  have e0' : hp_I h 259 (7 * r + 0) = nI pn := e0
  refine v_aload_n dX4_isRight_0 rfl rfl ?_
  refine v_iload_n dX4_isRight_1 rfl rfl ?_
  refine v_iconst (v := nI 1) dX4_isRight_2 (by decide) ?_
  refine v_pV mtX4_tellsOf q2053 q2055 qs96 rfl (by decide) dX4_isRight_3 (c_X4_tellsOf hm ?_) (mK_obj hm) (by decide) ?_
  · omega
  refine v_if_ne (tgt := 43) dX4_isRight_6 (by decide) (fun b6 => ?_) (fun b6 => ?_)
  · skip
    refine v_aload_n dX4_isRight_43 rfl rfl ?_
    refine v_iload_n dX4_isRight_44 rfl rfl ?_
    refine v_iconst (v := nI 4) dX4_isRight_45 (by decide) ?_
    refine v_pV mtX4_tellsOf q2053 q2055 qs96 rfl (by decide) dX4_isRight_46 (c_X4_tellsOf hm ?_) (mK_obj hm) (by decide) ?_
    · omega
    rw [e4]
    refine v_istore_n dX4_isRight_49 rfl (by decide) ?_
    refine v_loc2 (by repeat' (first | with_reducible exact lsub_n | with_reducible refine lsub_c ?_ ?_ | with_reducible refine lk_hit ?_ | with_reducible refine lk_miss (by decide) ?_ ?_ | exact rfl)) (v_lp1 (fun (k : Nat) => bn + 1 - k) (fun (k : Nat) => (an ≤ k ∧ k ≤ bn + 1) ∧ ∀ t, an ≤ t → t < k → ha_ (hp_I h 243) 2870 pn (hp_I h 259 (7 * r + 2)) t) (fun (k : Nat) => [(0, .ref 241), (1, .int (nI r)), (2, .int (nI k))]) (fun _ => []) (fun (k : Nat) => h) ?_ an ⟨⟨Nat.le_refl _, by omega⟩, fun t h1 h2 => by omega⟩)
    intro k hI IH
    obtain ⟨⟨hI1, hI3⟩, hI2⟩ := hI
    refine v_iload_n dX4_isRight_50 rfl rfl ?_
    refine v_aload_n dX4_isRight_51 rfl rfl ?_
    refine v_iload_n dX4_isRight_52 rfl rfl ?_
    refine v_iconst (v := nI 5) dX4_isRight_53 (by decide) ?_
    refine v_pV mtX4_tellsOf q2053 q2055 qs96 rfl (by decide) dX4_isRight_54 (c_X4_tellsOf hm ?_) (mK_obj hm) (by decide) ?_
    · omega
    rw [e5]
    refine v_icmp_gt (tgt := 91) dX4_isRight_57 (by decide) (fun b57 => ?_) (fun b57 => ?_)
    · skip
      rw [nI_ltI (by omega) (by omega)] at b57
      have hk : bn + 1 = k := by omega
      subst hk
      refine v_iconst (v := 1) dX4_isRight_91 (by decide) ?_
      refine v_reti dX4_isRight_92 (by first | rfl | exact Or.inr rfl | exact rt_z) (Pu_i ?_)
      unfold ri_; rw [e0, e4, e5, nI_clamp (by omega), nI_clamp (by omega), nI_clamp (by omega)]; exact (b2c_t (Or.inr ⟨b6, fun t h1 h2 => hI2 t h1 (by omega)⟩)).symm
    · skip
      rw [nI_ltI (by omega) (by omega)] at b57
      have hk : k ≤ bn := by omega
      refine v_aload_n dX4_isRight_60 rfl rfl ?_
      refine v_sipush (v := nI 2870) dX4_isRight_61 (by decide) ?_
      refine v_aload_n dX4_isRight_64 rfl rfl ?_
      refine v_iload_n dX4_isRight_65 rfl rfl ?_
      refine v_iconst (v := nI 0) dX4_isRight_66 (by decide) ?_
      refine v_pV mtX4_tellsOf q2053 q2055 qs96 rfl (by decide) dX4_isRight_67 (c_X4_tellsOf hm ?_) (mK_obj hm) (by decide) ?_
      · omega
      rw [e0']
      refine v_aload_n dX4_isRight_70 rfl rfl ?_
      refine v_iload_n dX4_isRight_71 rfl rfl ?_
      refine v_iconst (v := nI 2) dX4_isRight_72 (by decide) ?_
      refine v_pV mtX4_tellsOf q2053 q2055 qs96 rfl (by decide) dX4_isRight_73 (c_X4_tellsOf hm ?_) (mK_obj hm) (by decide) ?_
      · omega
      refine v_iload_n dX4_isRight_76 rfl rfl ?_
      refine v_pV mtX4_holdsAt q2061 q2063 qs98 rfl (by decide) dX4_isRight_77 (c_X4_holdsAt hm ?_ ?_ ?_ _) (mK_obj hm) (by decide) ?_
      · omega
      · omega
      · omega
      refine v_if_ne (tgt := 85) dX4_isRight_80 (by decide) (fun b80 => ?_) (fun b80 => ?_)
      · skip
        refine v_iinc dX4_isRight_85 rfl (by first | with_reducible exact nI_inc _ | exact rfl) (by decide) ?_
        refine v_goto (tgt := 50) dX4_isRight_88 (by decide) ?_
        refine v_loc2 (by repeat' (first | with_reducible exact lsub_n | with_reducible refine lsub_c ?_ ?_ | with_reducible refine lk_hit ?_ | with_reducible refine lk_miss (by decide) ?_ ?_ | exact rfl)) (IH (k + 1) ⟨⟨by omega, by omega⟩, fun t h1 h2 => ?_⟩ (by omega))
        rcases Nat.lt_succ_iff_lt_or_eq.mp h2 with z | z
        · exact hI2 t h1 z
        · rw [z]; exact b2c_n0.mp b80
      · skip
        refine v_iconst (v := 0) dX4_isRight_83 (by decide) ?_
        refine v_reti dX4_isRight_84 (by first | rfl | exact rt_z) (Pu_i ?_)
        unfold ri_; rw [e0, e4, e5, nI_clamp (by omega), nI_clamp (by omega), nI_clamp (by omega)]; exact (b2c_f (fun z => z.elim (fun y => b6 y.1) (fun y => b2c_0.mp b80 (y.2 k hI1 hk)))).symm
  · skip
    refine v_iconst (v := 0) dX4_isRight_9 (by decide) ?_
    refine v_istore_n dX4_isRight_10 rfl (by decide) ?_
    refine v_loc2 (by repeat' (first | with_reducible exact lsub_n | with_reducible refine lsub_c ?_ ?_ | with_reducible refine lk_hit ?_ | with_reducible refine lk_miss (by decide) ?_ ?_ | exact rfl)) (v_lp1 (fun (k : Nat) => nMov (hp_I h 243) - k) (fun (k : Nat) => k ≤ nMov (hp_I h 243) ∧ ∀ m, m < k → ¬ su_ (hp_I h 243) (hp_I h 259) m r 0) (fun (k : Nat) => [(0, .ref 241), (1, .int (nI r)), (2, .int (nI k))]) (fun _ => []) (fun (k : Nat) => h) ?_ 0 ⟨Nat.zero_le _, fun m hm => absurd hm (Nat.not_lt_zero m)⟩)
    intro k hI IH
    obtain ⟨hI1, hI2⟩ := hI
    refine v_iload_n dX4_isRight_11 rfl rfl ?_
    refine v_aload_n dX4_isRight_12 rfl rfl ?_
    refine v_getR fX4_17 dX4_isRight_13 (mK_obj hm) (mR_all hm) ?_ fcA_I
    refine v_sipush (v := 4882) dX4_isRight_16 (by decide) ?_
    refine v_iald dX4_isRight_19 (mK_all hm) (ix_lit _) (by first | assumption | omega) ?_
    refine v_icmp_ge (tgt := 41) dX4_isRight_20 (by decide) (fun b20 => ?_) (fun b20 => ?_)
    · skip
      rw [hM2, nI_leI (by omega) (by omega)] at b20
      have hk : nMov (hp_I h 243) = k := by omega
      refine v_iconst (v := 0) dX4_isRight_41 (by decide) ?_
      subst hk
      exact v_reti dX4_isRight_42 (by first | rfl | exact rt_z) (Pu_i (b2c_f (fun z => z.elim (fun y => y.2.elim (fun m y => hI2 m y.1 y.2)) (fun y => y.1 b6))).symm)
    · skip
      rw [hM2, nI_leI (by omega) (by omega)] at b20
      have hk : k < nMov (hp_I h 243) := by omega
      refine v_aload_n dX4_isRight_23 rfl rfl ?_
      refine v_iload_n dX4_isRight_24 rfl rfl ?_
      refine v_iload_n dX4_isRight_25 rfl rfl ?_
      refine v_iconst (v := nI 0) dX4_isRight_26 (by decide) ?_
      refine v_pV mtX4_isSuch q2057 q2059 qs97 rfl (by decide) dX4_isRight_27 (c_X4_isSuch hm ?_ ?_ _) (mK_obj hm) (by decide) ?_
      · omega
      · omega
      refine v_if_eq (tgt := 35) dX4_isRight_30 (by decide) (fun b30 => ?_) (fun b30 => ?_)
      · skip
        refine v_iinc dX4_isRight_35 rfl (by first | with_reducible exact nI_inc _ | exact rfl) (by decide) ?_
        refine v_goto (tgt := 11) dX4_isRight_38 (by decide) ?_
        refine v_loc2 (by repeat' (first | with_reducible exact lsub_n | with_reducible refine lsub_c ?_ ?_ | with_reducible refine lk_hit ?_ | with_reducible refine lk_miss (by decide) ?_ ?_ | exact rfl)) (IH (k + 1) ⟨by omega, fun m hm => ?_⟩ (by omega))
        rcases Nat.lt_succ_iff_lt_or_eq.mp hm with z | z
        · exact hI2 m z
        · rw [z]; exact b2c_0.mp b30
      · skip
        refine v_iconst (v := 1) dX4_isRight_33 (by decide) ?_
        exact v_reti dX4_isRight_34 (by first | rfl | exact Or.inr rfl | exact rt_z) (Pu_i (b2c_t (Or.inl ⟨b6, k, hk, b2c_n0.mp b30⟩)).symm)

theorem c_X4_right {G : Gv} {h : AH} {sN nC nR : Nat} (hS : MS_ h sN nC) (hR : RP_ h nR sN) (x : Int32) : Ctr G 4 yX4_right cX4_right 2 (some .int) [.ref 241, .int x] h 0 0 (Pr (sp_right h x)) := by
  refine ctr_of (own := RX4) (nm := "right") (by decide) (Nat.le_of_ble_eq_true rfl) ?_
  have hm := hS.1
  have e42 := hR.1
  have e42t : hp_I (th_ h) 241 42 = nI nR := hR.1
  have hR9 := hR.2.1
  refine v_aload_n dX4_right_0 rfl rfl ?_
  refine v_iconst (v := 0) dX4_right_1 (by decide) ?_
  refine v_thr fX4_1 dX4_right_2 hm ?_
  have hm := MI_th hm
  refine v_aload_n dX4_right_5 rfl rfl ?_
  refine v_iload_n dX4_right_6 rfl rfl ?_
  refine v_pV mtX4_isReport q2045 q2047 qs94 rfl (by decide) dX4_right_7 (c_X4_isReport hm _) (mK_obj hm) (by decide) ?_
  refine v_if_ne (tgt := 17) dX4_right_10 (by decide) (fun b10 => ?_) (fun b10 => ?_)
  · skip
    rw [b2i_n0, e42t] at b10
    obtain ⟨xn, hxn, rfl⟩ := nI_rng b10 (by omega)
    refine v_aload_n dX4_right_17 rfl rfl ?_
    refine v_iload_n dX4_right_18 rfl rfl ?_
    refine v_pV mtX4_isRight q2049 q2051 qs95 rfl (by decide) dX4_right_19 (c_X4_isRight (MS_th hS) (RP_th hR) hxn) (mK_obj hm) (by decide) ?_
    rw [th_33, show hp_I (th_ h) 259 = hp_I h 259 from th_A (by decide)]
    refine v_if_eq (tgt := 29) dX4_right_22 (by decide) (fun b22 => ?_) (fun b22 => ?_)
    · skip
      refine v_iconst (v := 0) dX4_right_29 (by decide) ?_
      exact v_reti dX4_right_30 rfl (by unfold sp_right; rw [e42]; (try rw [b2i_0, e42t] at b10); first | (rw [cf_f b10]; exact ⟨rfl, rfl⟩) | (rw [cf_t b10, nI_clamp (by omega)]; first | (rw [b2c_t (b2c_n0.mp b22)]; exact ⟨rfl, rfl⟩) | (rw [b2c_f (b2c_0.mp b22)]; exact ⟨rfl, rfl⟩)))
    · skip
      refine v_iconst (v := 1) dX4_right_25 (by decide) ?_
      refine v_goto (tgt := 30) dX4_right_26 (by decide) ?_
      exact v_reti dX4_right_30 rfl (by unfold sp_right; rw [e42]; (try rw [b2i_0, e42t] at b10); first | (rw [cf_f b10]; exact ⟨rfl, rfl⟩) | (rw [cf_t b10, nI_clamp (by omega)]; first | (rw [b2c_t (b2c_n0.mp b22)]; exact ⟨rfl, rfl⟩) | (rw [b2c_f (b2c_0.mp b22)]; exact ⟨rfl, rfl⟩)))
  · skip
    refine v_iconst (v := (-1)) dX4_right_13 (by decide) ?_
    refine v_goto (tgt := 30) dX4_right_14 (by decide) ?_
    exact v_reti dX4_right_30 rfl (by unfold sp_right; rw [e42]; (try rw [b2i_0, e42t] at b10); first | (rw [cf_f b10]; exact ⟨rfl, rfl⟩) | (rw [cf_t b10, nI_clamp (by omega)]; first | (rw [b2c_t (b2c_n0.mp b22)]; exact ⟨rfl, rfl⟩) | (rw [b2c_f (b2c_0.mp b22)]; exact ⟨rfl, rfl⟩)))

theorem fr_49 {h h1 : AH} (a : fr_ h h1) : hp_I h1 259 = hp_I h 259 := a.2.2.2.2 259 (Or.inr (by decide))
theorem th_49 {h : AH} : hp_I (th_ h) 259 = hp_I h 259 := th_A (by decide)
theorem c_X4_isHonest {G : Gv} {h : AH} {sN nC nR : Nat} (hS : MS_ h sN nC) (hR : RP_ h nR sN) {r : Nat} (hr : r < nR) : Ctr G 5 yX4_isHonest cX4_isHonest 5 (some .boolean) [.ref 241, .int (nI r)] h 0 0 (fun q h1 => q = some (.int (b2c (ho_ (hp_I h 243) (ct_ h) (hp_I h 259) nC (hp_I h 241 16) (hp_I h 241 17) r))) ∧ fr_ h h1) := by
  refine ctr_of (own := RX4) (nm := "isHonest") (by decide) (Nat.le_of_ble_eq_true rfl) ?_
  have hm := hS.1
  have hs := hS.2.1
  have hv := hS.2.2.1
  have h3 := sv_s hv
  obtain ⟨hM1, hM2⟩ := sv_mov hv
  have hR9 := hR.2.1
  obtain ⟨⟨pn, hpn, e0⟩, ek, ⟨an, bn, hab, hbn, e4, e5⟩, ⟨ln, hln, e6⟩⟩ := hR.2.2 r hr
  have e0' : hp_I h 259 (7 * r + 0) = nI pn := e0
  refine v_aload_n dX4_isHonest_0 rfl rfl ?_
  refine v_iload_n dX4_isHonest_1 rfl rfl ?_
  refine v_bipush (v := nI 6) dX4_isHonest_2 (by decide) ?_
  refine v_pV mtX4_tellsOf q2053 q2055 qs96 rfl (by decide) dX4_isHonest_4 (c_X4_tellsOf hm ?_) (mK_obj hm) (by decide) ?_
  · omega
  refine v_istore_n dX4_isHonest_7 rfl (by decide) ?_
  refine v_aload_n dX4_isHonest_8 rfl rfl ?_
  refine v_iload_n dX4_isHonest_9 rfl rfl ?_
  refine v_iconst (v := nI 1) dX4_isHonest_10 (by decide) ?_
  refine v_pV mtX4_tellsOf q2053 q2055 qs96 rfl (by decide) dX4_isHonest_11 (c_X4_tellsOf hm ?_) (mK_obj hm) (by decide) ?_
  · omega
  refine v_if_ne (tgt := 75) dX4_isHonest_14 (by decide) (fun b14 => ?_) (fun b14 => ?_)
  · skip
    refine v_iconst (v := 0) dX4_isHonest_75 (by decide) ?_
    refine v_istore_n dX4_isHonest_76 rfl (by decide) ?_
    refine v_aload_n dX4_isHonest_77 rfl rfl ?_
    refine v_iload_n dX4_isHonest_78 rfl rfl ?_
    refine v_iconst (v := nI 4) dX4_isHonest_79 (by decide) ?_
    refine v_pV mtX4_tellsOf q2053 q2055 qs96 rfl (by decide) dX4_isHonest_80 (c_X4_tellsOf hm ?_) (mK_obj hm) (by decide) ?_
    · omega
    rw [e4]
    refine v_istore dX4_isHonest_83 (by decide) ?_
    refine v_loc2 (by repeat' (first | with_reducible exact lsub_n | with_reducible refine lsub_c ?_ ?_ | with_reducible refine lk_hit ?_ | with_reducible refine lk_miss (by decide) ?_ ?_ | (first | exact rfl | (simp only [un_z]; exact rfl)))) (v_lp1 (fun (k : Nat) => bn + 1 - an - k) (fun (k : Nat) => k ≤ bn + 1 - an ∧ ∀ n, n < k → nI (un_ (fun t => ha_ (hp_I h 243) 1070 pn (hp_I h 259 (7 * r + 2)) t) an (n + 1)) ≤ hp_I h 241 17 * hp_I h 259 (7 * r + 6)) (fun (k : Nat) => [(0, .ref 241), (1, .int (nI r)), (2, .int (hp_I h 259 (7 * r + 6))), (3, .int (nI (un_ (fun t => ha_ (hp_I h 243) 1070 pn (hp_I h 259 (7 * r + 2)) t) an k))), (4, .int (nI (an + k)))]) (fun _ => []) (fun (k : Nat) => h) ?_ 0 ⟨Nat.zero_le _, fun m hm => absurd hm (Nat.not_lt_zero m)⟩)
    intro k hI IH
    obtain ⟨hI1, hI2⟩ := hI
    have hun := un_le (fun t => ha_ (hp_I h 243) 1070 pn (hp_I h 259 (7 * r + 2)) t) an k
    refine v_iload dX4_isHonest_85 rfl ?_
    refine v_aload_n dX4_isHonest_87 rfl rfl ?_
    refine v_iload_n dX4_isHonest_88 rfl rfl ?_
    refine v_iconst (v := nI 5) dX4_isHonest_89 (by decide) ?_
    refine v_pV mtX4_tellsOf q2053 q2055 qs96 rfl (by decide) dX4_isHonest_90 (c_X4_tellsOf hm ?_) (mK_obj hm) (by decide) ?_
    · omega
    rw [e5]
    refine v_icmp_gt (tgt := 146) dX4_isHonest_93 (by decide) (fun b93 => ?_) (fun b93 => ?_)
    · skip
      rw [nI_ltI (by omega) (by omega)] at b93
      have hk : bn + 1 - an = k := by omega
      refine v_iconst (v := 1) dX4_isHonest_146 (by decide) ?_
      refine v_reti dX4_isHonest_147 (by first | rfl | exact rt_z | exact Or.inr rfl) ⟨congrArg (fun z => some (Value.int z)) ?_, fr_rf h⟩
      unfold ho_; rw [e0, e4, e5, nI_clamp (by omega), nI_clamp (by omega), nI_clamp (by omega)]; exact (b2c_t (Or.inr ⟨b14, fun n hn => hI2 n (by omega)⟩)).symm
    · skip
      rw [nI_ltI (by omega) (by omega)] at b93
      have hk : an + k ≤ bn := by omega
      refine v_join 127 (fun z => z = nI (un_ (fun t => ha_ (hp_I h 243) 1070 pn (hp_I h 259 (7 * r + 2)) t) an (k + 1))) (fun z hz => ?_) (fun hj127 => ?_)
      · skip
        subst hz
        refine v_istore_n dX4_isHonest_127 rfl (by decide) ?_
        refine v_iload_n dX4_isHonest_128 rfl rfl ?_
        refine v_aload_n dX4_isHonest_129 rfl rfl ?_
        refine v_getI fX4_303 dX4_isHonest_130 (mK_obj hm) ?_
        refine v_iload_n dX4_isHonest_133 rfl rfl ?_
        refine v_imul dX4_isHonest_134 ?_
        refine v_icmp_le (tgt := 140) dX4_isHonest_135 (by decide) (fun b135 => ?_) (fun b135 => ?_)
        · skip
          refine v_iinc dX4_isHonest_140 rfl (by first | with_reducible exact nI_inc _ | exact rfl) (by decide) ?_
          refine v_goto (tgt := 85) dX4_isHonest_143 (by decide) ?_
          refine v_loc2 (by repeat' (first | with_reducible exact lsub_n | with_reducible refine lsub_c ?_ ?_ | with_reducible refine lk_hit ?_ | with_reducible refine lk_miss (by decide) ?_ ?_ | exact rfl)) (IH (k + 1) ⟨by omega, fun n hn => ?_⟩ (by omega))
          rcases Nat.lt_succ_iff_lt_or_eq.mp hn with z | z
          · exact hI2 n z
          · rw [z]; exact b135
        · skip
          refine v_iconst (v := 0) dX4_isHonest_138 (by decide) ?_
          refine v_reti dX4_isHonest_139 (by first | rfl | exact rt_z | exact Or.inr rfl) ⟨congrArg (fun z => some (Value.int z)) ?_, fr_rf h⟩
          unfold ho_; rw [e0, e4, e5, nI_clamp (by omega), nI_clamp (by omega), nI_clamp (by omega)]; exact (b2c_f (fun z => z.elim (fun y => b14 y.1) (fun y => b135 (y.2 k (by omega))))).symm
      · skip
        refine v_aload_n dX4_isHonest_96 rfl rfl ?_
        refine v_sipush (v := nI 1070) dX4_isHonest_97 (by decide) ?_
        refine v_aload_n dX4_isHonest_100 rfl rfl ?_
        refine v_iload_n dX4_isHonest_101 rfl rfl ?_
        refine v_iconst (v := nI 0) dX4_isHonest_102 (by decide) ?_
        refine v_pV mtX4_tellsOf q2053 q2055 qs96 rfl (by decide) dX4_isHonest_103 (c_X4_tellsOf hm ?_) (mK_obj hm) (by decide) ?_
        · omega
        rw [e0']
        refine v_aload_n dX4_isHonest_106 rfl rfl ?_
        refine v_iload_n dX4_isHonest_107 rfl rfl ?_
        refine v_iconst (v := nI 2) dX4_isHonest_108 (by decide) ?_
        refine v_pV mtX4_tellsOf q2053 q2055 qs96 rfl (by decide) dX4_isHonest_109 (c_X4_tellsOf hm ?_) (mK_obj hm) (by decide) ?_
        · omega
        refine v_iload dX4_isHonest_112 rfl ?_
        refine v_pV mtX4_holdsAt q2061 q2063 qs98 rfl (by decide) dX4_isHonest_114 (c_X4_holdsAt hm ?_ ?_ ?_ _) (mK_obj hm) (by decide) ?_
        · omega
        · omega
        · omega
        refine v_if_eq (tgt := 124) dX4_isHonest_117 (by decide) (fun b117 => ?_) (fun b117 => ?_)
        · skip
          refine v_iload_n dX4_isHonest_124 rfl rfl ?_
          refine v_iconst (v := 1) dX4_isHonest_125 (by decide) ?_
          refine v_iadd dX4_isHonest_126 ?_
          rw [nI_1]
          exact hj127 _ (by rw [un_s]; first | exact congrArg nI (cf_t (b2c_n0.mp b117)).symm | exact congrArg nI (cf_f (b2c_0.mp b117)).symm)
        · skip
          refine v_iconst (v := 0) dX4_isHonest_120 (by decide) ?_
          refine v_goto (tgt := 127) dX4_isHonest_121 (by decide) ?_
          exact hj127 _ (by rw [un_s]; first | exact congrArg nI (cf_t (b2c_n0.mp b117)).symm | exact congrArg nI (cf_f (b2c_0.mp b117)).symm)
  · skip
    refine v_aload_n dX4_isHonest_17 rfl rfl ?_
    refine v_iconst (v := nI 0) dX4_isHonest_18 (by decide) ?_
    refine v_zV mtX4_lays q1855 q1857 qs65 rfl (by decide) dX4_isHonest_19 (c_lays hS _) (mK_obj hm) (by decide) (fun r19 h19 q19 z19 => ?_)
    obtain ⟨rfl, hL⟩ := q19
    have hL : LY_ h nC sN 0 h19 := hL
    have hm : MI h19 := (MS_fr hS hL.1).1
    refine v_iconst (v := 0) dX4_isHonest_22 (by decide) ?_
    refine v_istore_n dX4_isHonest_23 rfl (by decide) ?_
    refine v_loc2 (by repeat' (first | with_reducible exact lsub_n | with_reducible refine lsub_c ?_ ?_ | with_reducible refine lk_hit ?_ | with_reducible refine lk_miss (by decide) ?_ ?_ | exact rfl)) (v_lp1 (fun (k : Nat) => nMov (hp_I h 243) - k) (fun (k : Nat) => k ≤ nMov (hp_I h 243) ∧ ∀ m, m < k → ¬ (su_ (hp_I h 243) (hp_I h 259) m r (hp_I h 241 16 * hp_I h 259 (7 * r + 6)) ∧ sw_ (hp_I h 243) (ct_ h) nC 0 m pn)) (fun (k : Nat) => [(0, .ref 241), (1, .int (nI r)), (2, .int (hp_I h 259 (7 * r + 6))), (3, .int (nI k))]) (fun _ => []) (fun (k : Nat) => h19) ?_ 0 ⟨Nat.zero_le _, fun m hm => absurd hm (Nat.not_lt_zero m)⟩)
    intro k hI IH
    obtain ⟨hI1, hI2⟩ := hI
    refine v_iload_n dX4_isHonest_24 rfl rfl ?_
    refine v_aload_n dX4_isHonest_25 rfl rfl ?_
    refine v_getR fX4_17 dX4_isHonest_26 (mK_obj hm) (mR_all hm) ?_ fcA_I
    refine v_sipush (v := 4882) dX4_isHonest_29 (by decide) ?_
    refine v_iald dX4_isHonest_32 (mK_all hm) (ix_lit _) (by first | assumption | omega) ?_
    rw [fr_33 hL.1, hM2]
    refine v_icmp_ge (tgt := 73) dX4_isHonest_33 (by decide) (fun b33 => ?_) (fun b33 => ?_)
    · skip
      rw [nI_leI (by omega) (by omega)] at b33
      have hk : nMov (hp_I h 243) = k := by omega
      refine v_iconst (v := 0) dX4_isHonest_73 (by decide) ?_
      refine v_reti dX4_isHonest_74 (by first | rfl | exact rt_z | exact Or.inr rfl) ⟨congrArg (fun z => some (Value.int z)) ?_, hL.1⟩
      unfold ho_; rw [e0, e4, e5, nI_clamp (by omega), nI_clamp (by omega), nI_clamp (by omega)]; exact (b2c_f (fun z => z.elim (fun y => y.2.elim (fun m y => hI2 m (by omega) y.2)) (fun y => y.1 b14))).symm
    · skip
      rw [nI_leI (by omega) (by omega)] at b33
      have hk : k < nMov (hp_I h 243) := by omega
      refine v_aload_n dX4_isHonest_36 rfl rfl ?_
      refine v_iload_n dX4_isHonest_37 rfl rfl ?_
      refine v_iload_n dX4_isHonest_38 rfl rfl ?_
      refine v_aload_n dX4_isHonest_39 rfl rfl ?_
      refine v_getI fX4_300 dX4_isHonest_40 (mK_obj hm) ?_
      rw [fr_31 hL.1]
      refine v_iload_n dX4_isHonest_43 rfl rfl ?_
      refine v_imul dX4_isHonest_44 ?_
      refine v_pV mtX4_isSuch q2057 q2059 qs97 rfl (by decide) dX4_isHonest_45 (c_X4_isSuch hm ?_ ?_ _) (mK_obj hm) (by decide) ?_
      · omega
      · omega
      rw [fr_33 hL.1, fr_49 hL.1]
      refine v_if_eq (tgt := 67) dX4_isHonest_48 (by decide) (fun b48 => ?_) (fun b48 => ?_)
      · skip
        refine v_iinc dX4_isHonest_67 rfl (by first | with_reducible exact nI_inc _ | exact rfl) (by decide) ?_
        refine v_goto (tgt := 24) dX4_isHonest_70 (by decide) ?_
        refine v_loc2 (by repeat' (first | with_reducible exact lsub_n | with_reducible refine lsub_c ?_ ?_ | with_reducible refine lk_hit ?_ | with_reducible refine lk_miss (by decide) ?_ ?_ | exact rfl)) (IH (k + 1) ⟨by omega, fun m hm => ?_⟩ (by omega))
        rcases Nat.lt_succ_iff_lt_or_eq.mp hm with z | z
        · exact hI2 m z
        · rw [z]; first | exact fun y => b2c_0.mp b48 y.1 | exact fun y => b2c_0.mp b62 y.2
      · skip
        refine v_aload_n dX4_isHonest_51 rfl rfl ?_
        refine v_iload_n dX4_isHonest_52 rfl rfl ?_
        refine v_aload_n dX4_isHonest_53 rfl rfl ?_
        refine v_iload_n dX4_isHonest_54 rfl rfl ?_
        refine v_iconst (v := nI 0) dX4_isHonest_55 (by decide) ?_
        refine v_pV mtX4_tellsOf q2053 q2055 qs96 rfl (by decide) dX4_isHonest_56 (c_X4_tellsOf hm ?_) (mK_obj hm) (by decide) ?_
        · omega
        rw [fr_49 hL.1, e0']
        refine v_pV mtX4_sawIt q1894 q1896 qs72 rfl (by decide) dX4_isHonest_59 (c_X4_sawIt hS hL ?_ ?_) (mK_obj hm) (by decide) ?_
        · exact hk
        · exact hpn
        refine v_if_eq (tgt := 67) dX4_isHonest_62 (by decide) (fun b62 => ?_) (fun b62 => ?_)
        · skip
          refine v_iinc dX4_isHonest_67 rfl (by first | with_reducible exact nI_inc _ | exact rfl) (by decide) ?_
          refine v_goto (tgt := 24) dX4_isHonest_70 (by decide) ?_
          refine v_loc2 (by repeat' (first | with_reducible exact lsub_n | with_reducible refine lsub_c ?_ ?_ | with_reducible refine lk_hit ?_ | with_reducible refine lk_miss (by decide) ?_ ?_ | exact rfl)) (IH (k + 1) ⟨by omega, fun m hm => ?_⟩ (by omega))
          rcases Nat.lt_succ_iff_lt_or_eq.mp hm with z | z
          · exact hI2 m z
          · rw [z]; first | exact fun y => b2c_0.mp b48 y.1 | exact fun y => b2c_0.mp b62 y.2
        · skip
          refine v_iconst (v := 1) dX4_isHonest_65 (by decide) ?_
          refine v_reti dX4_isHonest_66 (by first | rfl | exact rt_z | exact Or.inr rfl) ⟨congrArg (fun z => some (Value.int z)) ?_, hL.1⟩
          unfold ho_; rw [e0, e4, e5, nI_clamp (by omega), nI_clamp (by omega), nI_clamp (by omega)]; exact (b2c_t (Or.inl ⟨b14, k, hk, b2c_n0.mp b48, b2c_n0.mp b62⟩)).symm

theorem c_X4_honest {G : Gv} {h : AH} {sN nC nR : Nat} (hS : MS_ h sN nC) (hR : RP_ h nR sN) (x : Int32) : Ctr G 6 yX4_honest cX4_honest 2 (some .int) [.ref 241, .int x] h 0 0 (Pf h (sp_honest h nC x)) := by
  refine ctr_of (own := RX4) (nm := "honest") (by decide) (Nat.le_of_ble_eq_true rfl) ?_
  have hm := hS.1
  have hS0 := MS_th hS
  have hR0 := RP_th hR
  have hpt := fp_th h
  have e42 := hR.1
  have e42t : hp_I (th_ h) 241 42 = nI nR := hR.1
  have hR9 := hR.2.1
  refine v_aload_n dX4_honest_0 rfl rfl ?_
  refine v_iconst (v := 0) dX4_honest_1 (by decide) ?_
  refine v_thr fX4_1 dX4_honest_2 hm ?_
  have hm := MI_th hm
  refine v_aload_n dX4_honest_5 rfl rfl ?_
  refine v_iload_n dX4_honest_6 rfl rfl ?_
  refine v_pV mtX4_isReport q2045 q2047 qs94 rfl (by decide) dX4_honest_7 (c_X4_isReport hm _) (mK_obj hm) (by decide) ?_
  refine v_if_ne (tgt := 17) dX4_honest_10 (by decide) (fun b10 => ?_) (fun b10 => ?_)
  · skip
    rw [b2i_n0, e42t] at b10
    obtain ⟨xn, hxn, rfl⟩ := nI_rng b10 (by omega)
    refine v_aload_n dX4_honest_17 rfl rfl ?_
    refine v_iload_n dX4_honest_18 rfl rfl ?_
    refine v_zV mtX4_isHonest q2069 q2071 qs99 rfl (by decide) dX4_honest_19 (c_X4_isHonest hS0 hR0 hxn) (mK_obj hm) (by decide) (fun r19 h19 q19 z19 => ?_)
    obtain ⟨rfl, hf⟩ := q19
    have hm : MI h19 := (MS_fr hS0 hf).1
    rw [th_33, th_49, th_ct]
    have hpx := fp_tr hpt (fp_fr hf)
    refine v_if_eq (tgt := 29) dX4_honest_22 (by decide) (fun b22 => ?_) (fun b22 => ?_)
    · skip
      refine v_iconst (v := 0) dX4_honest_29 (by decide) ?_
      exact v_reti dX4_honest_30 rfl (by first | exact Pf_i hpt (by unfold sp_honest; rw [e42]; rw [b2i_0, e42t] at b10; rw [cf_f b10]) | exact Pf_i hpx (by unfold sp_honest; rw [e42, cf_t b10, nI_clamp (by omega)]; first | exact congrArg (fun z => (z, _)) (b2c_t (b2c_n0.mp b22)) | exact congrArg (fun z => (z, _)) (b2c_f (b2c_0.mp b22))))
    · skip
      refine v_iconst (v := 1) dX4_honest_25 (by decide) ?_
      refine v_goto (tgt := 30) dX4_honest_26 (by decide) ?_
      exact v_reti dX4_honest_30 rfl (by first | exact Pf_i hpt (by unfold sp_honest; rw [e42]; rw [b2i_0, e42t] at b10; rw [cf_f b10]) | exact Pf_i hpx (by unfold sp_honest; rw [e42, cf_t b10, nI_clamp (by omega)]; first | exact congrArg (fun z => (z, _)) (b2c_t (b2c_n0.mp b22)) | exact congrArg (fun z => (z, _)) (b2c_f (b2c_0.mp b22))))
  · skip
    refine v_iconst (v := (-1)) dX4_honest_13 (by decide) ?_
    refine v_goto (tgt := 30) dX4_honest_14 (by decide) ?_
    exact v_reti dX4_honest_30 rfl (by first | exact Pf_i hpt (by unfold sp_honest; rw [e42]; rw [b2i_0, e42t] at b10; rw [cf_f b10]) | exact Pf_i hpx (by unfold sp_honest; rw [e42, cf_t b10, nI_clamp (by omega)]; first | exact congrArg (fun z => (z, _)) (b2c_t (b2c_n0.mp b22)) | exact congrArg (fun z => (z, _)) (b2c_f (b2c_0.mp b22))))

theorem c_X4_agree {G : Gv} {h : AH} {sN nR : Nat} (hm : MI h) (hR : RP_ h nR sN) (x y : Int32) : Ctr G 3 yX4_agree cX4_agree 3 (some .int) [.ref 241, .int x, .int y] h 0 0 (Pr (sp_agree h x y)) := by
  refine ctr_of (own := RX4) (nm := "agree") (by decide) (Nat.le_of_ble_eq_true rfl) ?_
  have e42 := hR.1
  have e42t : hp_I (th_ h) 241 42 = nI nR := hR.1
  have hR9 := hR.2.1
  refine v_aload_n dX4_agree_0 rfl rfl ?_
  refine v_iconst (v := 0) dX4_agree_1 (by decide) ?_
  refine v_thr fX4_1 dX4_agree_2 hm ?_
  have hm := MI_th hm
  refine v_cut 28 ((0 ≤ x ∧ x < hp_I h 241 42) ∧ (0 ≤ y ∧ y < hp_I h 241 42) ∧ ¬ x = y) (fun hz28 => ?_) (fun hc28 => ?_)
  · skip
    have hz9 := hz28
    rw [e42] at hz9
    obtain ⟨xn, hxn, rfl⟩ := nI_rng hz9.1 (by omega)
    obtain ⟨yn, hyn, rfl⟩ := nI_rng hz9.2.1 (by omega)
    refine v_aload_n dX4_agree_28 rfl rfl ?_
    refine v_iload_n dX4_agree_29 rfl rfl ?_
    refine v_iconst (v := nI 1) dX4_agree_30 (by decide) ?_
    refine v_pV mtX4_tellsOf q2053 q2055 qs96 rfl (by decide) dX4_agree_31 (c_X4_tellsOf hm ?_) (mK_obj hm) (by decide) ?_
    · omega
    refine v_aload_n dX4_agree_34 rfl rfl ?_
    refine v_iload_n dX4_agree_35 rfl rfl ?_
    refine v_iconst (v := nI 1) dX4_agree_36 (by decide) ?_
    refine v_pV mtX4_tellsOf q2053 q2055 qs96 rfl (by decide) dX4_agree_37 (c_X4_tellsOf hm ?_) (mK_obj hm) (by decide) ?_
    · omega
    refine v_icmp_ne (tgt := 58) dX4_agree_40 (by decide) (fun b40 => ?_) (fun b40 => ?_)
    · skip
      refine v_iconst (v := 0) dX4_agree_58 (by decide) ?_
      exact v_reti dX4_agree_59 rfl (by unfold sp_agree ag_; rw [cf_t hz28, nI_clamp (by omega), nI_clamp (by omega)]; (try simp only [th_49] at *); rw [b2c_f (by grind)]; exact ⟨rfl, rfl⟩)
    · skip
      refine v_aload_n dX4_agree_43 rfl rfl ?_
      refine v_iload_n dX4_agree_44 rfl rfl ?_
      refine v_iconst (v := nI 2) dX4_agree_45 (by decide) ?_
      refine v_pV mtX4_tellsOf q2053 q2055 qs96 rfl (by decide) dX4_agree_46 (c_X4_tellsOf hm ?_) (mK_obj hm) (by decide) ?_
      · omega
      refine v_aload_n dX4_agree_49 rfl rfl ?_
      refine v_iload_n dX4_agree_50 rfl rfl ?_
      refine v_iconst (v := nI 2) dX4_agree_51 (by decide) ?_
      refine v_pV mtX4_tellsOf q2053 q2055 qs96 rfl (by decide) dX4_agree_52 (c_X4_tellsOf hm ?_) (mK_obj hm) (by decide) ?_
      · omega
      refine v_icmp_eq (tgt := 60) dX4_agree_55 (by decide) (fun b55 => ?_) (fun b55 => ?_)
      · skip
        refine v_aload_n dX4_agree_60 rfl rfl ?_
        refine v_iload_n dX4_agree_61 rfl rfl ?_
        refine v_iconst (v := nI 1) dX4_agree_62 (by decide) ?_
        refine v_pV mtX4_tellsOf q2053 q2055 qs96 rfl (by decide) dX4_agree_63 (c_X4_tellsOf hm ?_) (mK_obj hm) (by decide) ?_
        · omega
        refine v_iconst (v := 1) dX4_agree_66 (by decide) ?_
        refine v_icmp_ne (tgt := 72) dX4_agree_67 (by decide) (fun b67 => ?_) (fun b67 => ?_)
        · skip
          refine v_aload_n dX4_agree_72 rfl rfl ?_
          refine v_iload_n dX4_agree_73 rfl rfl ?_
          refine v_iconst (v := nI 3) dX4_agree_74 (by decide) ?_
          refine v_pV mtX4_tellsOf q2053 q2055 qs96 rfl (by decide) dX4_agree_75 (c_X4_tellsOf hm ?_) (mK_obj hm) (by decide) ?_
          · omega
          refine v_aload_n dX4_agree_78 rfl rfl ?_
          refine v_iload_n dX4_agree_79 rfl rfl ?_
          refine v_iconst (v := nI 3) dX4_agree_80 (by decide) ?_
          refine v_pV mtX4_tellsOf q2053 q2055 qs96 rfl (by decide) dX4_agree_81 (c_X4_tellsOf hm ?_) (mK_obj hm) (by decide) ?_
          · omega
          refine v_icmp_ne (tgt := 121) dX4_agree_84 (by decide) (fun b84 => ?_) (fun b84 => ?_)
          · skip
            refine v_iconst (v := 0) dX4_agree_121 (by decide) ?_
            exact v_reti dX4_agree_122 rfl (by unfold sp_agree ag_; rw [cf_t hz28, nI_clamp (by omega), nI_clamp (by omega)]; (try simp only [th_49] at *); first | (rw [b2c_t (by grind)]; exact ⟨rfl, rfl⟩) | (rw [b2c_f (by grind)]; exact ⟨rfl, rfl⟩))
          · skip
            refine v_aload_n dX4_agree_87 rfl rfl ?_
            refine v_iload_n dX4_agree_88 rfl rfl ?_
            refine v_iconst (v := nI 4) dX4_agree_89 (by decide) ?_
            refine v_pV mtX4_tellsOf q2053 q2055 qs96 rfl (by decide) dX4_agree_90 (c_X4_tellsOf hm ?_) (mK_obj hm) (by decide) ?_
            · omega
            refine v_aload_n dX4_agree_93 rfl rfl ?_
            refine v_iload_n dX4_agree_94 rfl rfl ?_
            refine v_iconst (v := nI 5) dX4_agree_95 (by decide) ?_
            refine v_pV mtX4_tellsOf q2053 q2055 qs96 rfl (by decide) dX4_agree_96 (c_X4_tellsOf hm ?_) (mK_obj hm) (by decide) ?_
            · omega
            refine v_icmp_gt (tgt := 121) dX4_agree_99 (by decide) (fun b99 => ?_) (fun b99 => ?_)
            · skip
              refine v_iconst (v := 0) dX4_agree_121 (by decide) ?_
              exact v_reti dX4_agree_122 rfl (by unfold sp_agree ag_; rw [cf_t hz28, nI_clamp (by omega), nI_clamp (by omega)]; (try simp only [th_49] at *); first | (rw [b2c_t (by grind)]; exact ⟨rfl, rfl⟩) | (rw [b2c_f (by grind)]; exact ⟨rfl, rfl⟩))
            · skip
              refine v_aload_n dX4_agree_102 rfl rfl ?_
              refine v_iload_n dX4_agree_103 rfl rfl ?_
              refine v_iconst (v := nI 4) dX4_agree_104 (by decide) ?_
              refine v_pV mtX4_tellsOf q2053 q2055 qs96 rfl (by decide) dX4_agree_105 (c_X4_tellsOf hm ?_) (mK_obj hm) (by decide) ?_
              · omega
              refine v_aload_n dX4_agree_108 rfl rfl ?_
              refine v_iload_n dX4_agree_109 rfl rfl ?_
              refine v_iconst (v := nI 5) dX4_agree_110 (by decide) ?_
              refine v_pV mtX4_tellsOf q2053 q2055 qs96 rfl (by decide) dX4_agree_111 (c_X4_tellsOf hm ?_) (mK_obj hm) (by decide) ?_
              · omega
              refine v_icmp_gt (tgt := 121) dX4_agree_114 (by decide) (fun b114 => ?_) (fun b114 => ?_)
              · skip
                refine v_iconst (v := 0) dX4_agree_121 (by decide) ?_
                exact v_reti dX4_agree_122 rfl (by unfold sp_agree ag_; rw [cf_t hz28, nI_clamp (by omega), nI_clamp (by omega)]; (try simp only [th_49] at *); first | (rw [b2c_t (by grind)]; exact ⟨rfl, rfl⟩) | (rw [b2c_f (by grind)]; exact ⟨rfl, rfl⟩))
              · skip
                refine v_iconst (v := 1) dX4_agree_117 (by decide) ?_
                refine v_goto (tgt := 122) dX4_agree_118 (by decide) ?_
                exact v_reti dX4_agree_122 rfl (by unfold sp_agree ag_; rw [cf_t hz28, nI_clamp (by omega), nI_clamp (by omega)]; (try simp only [th_49] at *); first | (rw [b2c_t (by grind)]; exact ⟨rfl, rfl⟩) | (rw [b2c_f (by grind)]; exact ⟨rfl, rfl⟩))
        · skip
          refine v_iconst (v := 1) dX4_agree_70 (by decide) ?_
          exact v_reti dX4_agree_71 rfl (by unfold sp_agree ag_; rw [cf_t hz28, nI_clamp (by omega), nI_clamp (by omega)]; (try simp only [th_49] at *); rw [b2c_t (by grind)]; exact ⟨rfl, rfl⟩)
      · skip
        refine v_iconst (v := 0) dX4_agree_58 (by decide) ?_
        exact v_reti dX4_agree_59 rfl (by unfold sp_agree ag_; rw [cf_t hz28, nI_clamp (by omega), nI_clamp (by omega)]; (try simp only [th_49] at *); rw [b2c_f (by grind)]; exact ⟨rfl, rfl⟩)
  · skip
    refine v_cut 26 (¬ ((0 ≤ x ∧ x < hp_I h 241 42) ∧ (0 ≤ y ∧ y < hp_I h 241 42) ∧ ¬ x = y)) (fun hz26 => ?_) (fun hc26 => ?_)
    · skip
      refine v_iconst (v := (-1)) dX4_agree_26 (by decide) ?_
      exact v_reti dX4_agree_27 rfl (by unfold sp_agree; rw [cf_f hz26]; exact ⟨rfl, rfl⟩)
    · skip
      refine v_aload_n dX4_agree_5 rfl rfl ?_
      refine v_iload_n dX4_agree_6 rfl rfl ?_
      refine v_pV mtX4_isReport q2045 q2047 qs94 rfl (by decide) dX4_agree_7 (c_X4_isReport hm _) (mK_obj hm) (by decide) ?_
      refine v_if_eq (tgt := 26) dX4_agree_10 (by decide) (fun b10 => ?_) (fun b10 => ?_)
      · skip
        exact hc26 (by simp only [e42t, e42, b2i_0, b2i_n0] at *; grind)
      · skip
        refine v_aload_n dX4_agree_13 rfl rfl ?_
        refine v_iload_n dX4_agree_14 rfl rfl ?_
        refine v_pV mtX4_isReport q2045 q2047 qs94 rfl (by decide) dX4_agree_15 (c_X4_isReport hm _) (mK_obj hm) (by decide) ?_
        refine v_if_eq (tgt := 26) dX4_agree_18 (by decide) (fun b18 => ?_) (fun b18 => ?_)
        · skip
          exact hc26 (by simp only [e42t, e42, b2i_0, b2i_n0] at *; grind)
        · skip
          refine v_iload_n dX4_agree_21 rfl rfl ?_
          refine v_iload_n dX4_agree_22 rfl rfl ?_
          refine v_icmp_ne (tgt := 28) dX4_agree_23 (by decide) (fun b23 => ?_) (fun b23 => ?_)
          · skip
            exact hc28 (by simp only [e42t, e42, b2i_0, b2i_n0] at *; grind)
          · skip
            exact hc26 (by simp only [e42t, e42, b2i_0, b2i_n0] at *; grind)

set_option maxHeartbeats 1000000 in
theorem c_X4_record {G : Gv} {h : AH} {sN nC nR : Nat} (hS : MS_ h sN nC) (hR : RP_ h nR sN) (p x : Int32) : Ctr G 6 yX4_record cX4_record 7 (some .int) [.ref 241, .int p, .int x] h 0 0 (Pf h (sp_record h nC p x)) := by
  refine ctr_of (own := RX4) (nm := "record") (by decide) (Nat.le_of_ble_eq_true rfl) ?_
  have hm := hS.1
  have hS0 := MS_th hS
  have hs := hS.2.1
  have hv := hS.2.2.1
  have h3 := sv_s hv
  have hpt := fp_th h
  have hR0 := RP_th hR
  have e42 := hR.1
  have hR9 := hR.2.1
  refine v_aload_n dX4_record_0 rfl rfl ?_
  refine v_iconst (v := 0) dX4_record_1 (by decide) ?_
  refine v_thr fX4_1 dX4_record_2 hm ?_
  have hm := MI_th hm
  refine v_cut 27 ((0 ≤ p ∧ p < hp_I h 241 4) ∧ (0 ≤ x ∧ x ≤ 4)) (fun hz27 => ?_) (fun hc27 => ?_)
  · skip
    have hz9 := hz27
    refine v_iconst (v := 0) dX4_record_27 (by decide) ?_
    refine v_istore_n dX4_record_28 rfl (by decide) ?_
    refine v_iconst (v := 0) dX4_record_29 (by decide) ?_
    refine v_istore dX4_record_30 (by decide) ?_
    refine v_loc2 (by repeat' (first | with_reducible exact lsub_n | with_reducible refine lsub_c ?_ ?_ | with_reducible refine lk_hit ?_ | with_reducible refine lk_miss (by decide) ?_ ?_ | (first | exact rfl | (simp only [gc_z]; exact rfl)))) (v_lp2 (fun (k : Nat) (hh : AH) => nR - k) (fun (k : Nat) (hh : AH) => k ≤ nR ∧ fr_ (th_ h) hh) (fun (k : Nat) (hh : AH) => [(0, .ref 241), (1, .int p), (2, .int x), (3, .int (nI (gc_ (rd_ h nC p x) k))), (4, .int (nI k))]) (fun (k : Nat) (hh : AH) => hh) ?_ 0 _ ⟨Nat.zero_le _, fr_rf _⟩)
    intro k hh hI IH
    obtain ⟨hI1, hI2⟩ := hI
    have hSh : MS_ hh sN nC := MS_fr hS0 hI2
    have hRh : RP_ hh nR sN := RP_fr hI2 hR0
    have hm : MI hh := hSh.1
    have hg9 := gc_le (rd_ h nC p x) k
    refine v_iload dX4_record_32 rfl ?_
    refine v_aload_n dX4_record_34 rfl rfl ?_
    refine v_getI fX4_119 dX4_record_35 (mK_obj hm) ?_
    rw [fr_31 hI2, show hp_I (th_ h) 241 42 = nI nR from e42]
    refine v_icmp_ge (tgt := 139) dX4_record_38 (by decide) (fun b38 => ?_) (fun b38 => ?_)
    · skip
      rw [nI_leI (by omega) (by omega)] at b38
      have hk : nR = k := by omega
      subst hk
      refine v_iload_n dX4_record_139 rfl rfl ?_
      exact v_reti dX4_record_140 rfl (Pf_i (fp_tr hpt (fp_fr hI2)) (by unfold sp_record; rw [cf_t hz27, e42, nI_clamp (by omega)]))
    · skip
      rw [nI_leI (by omega) (by omega)] at b38
      have hk : k < nR := by omega
      refine v_aload_n dX4_record_41 rfl rfl ?_
      refine v_iload dX4_record_42 rfl ?_
      refine v_iconst (v := nI 0) dX4_record_44 (by decide) ?_
      refine v_pV mtX4_tellsOf q2053 q2055 qs96 rfl (by decide) dX4_record_45 (c_X4_tellsOf hm ?_) (mK_obj hm) (by decide) ?_
      · omega
      rw [fr_49 hI2, th_49]
      refine v_iload_n dX4_record_48 rfl rfl ?_
      refine v_icmp_eq (tgt := 55) dX4_record_49 (by decide) (fun b49 => ?_) (fun b49 => ?_)
      · skip
        refine v_aload_n dX4_record_55 rfl rfl ?_
        refine v_iload dX4_record_56 rfl ?_
        refine v_pV mtX4_isRight q2049 q2051 qs95 rfl (by decide) dX4_record_58 (c_X4_isRight hSh hRh hk) (mK_obj hm) (by decide) ?_
        rw [fr_33 hI2, th_33, fr_49 hI2, th_49]
        refine v_istore dX4_record_61 (by decide) ?_
        refine v_aload_n dX4_record_63 rfl rfl ?_
        refine v_iload dX4_record_64 rfl ?_
        refine v_zV mtX4_isHonest q2069 q2071 qs99 rfl (by decide) dX4_record_66 (c_X4_isHonest hSh hRh hk) (mK_obj hm) (by decide) (fun r66 h66 q66 z66 => ?_)
        obtain ⟨rfl, hf⟩ := q66
        have hm : MI h66 := (MS_fr hSh hf).1
        rw [fr_33 hI2, th_33, fr_49 hI2, th_49, fr_ct hI2, th_ct, fr_31 hI2, show hp_I (th_ h) 241 16 = hp_I h 241 16 from rfl, show hp_I (th_ h) 241 17 = hp_I h 241 17 from rfl]
        refine v_istore dX4_record_69 (by decide) ?_
        refine v_iload_n dX4_record_71 rfl rfl ?_
        refine v_join 131 (fun z => z = b2c (x = 0 ∨ (x = 1 ∧ ri_ (hp_I h 243) (hp_I h 259) k) ∨ (x = 2 ∧ ho_ (hp_I h 243) (ct_ h) (hp_I h 259) nC (hp_I h 241 16) (hp_I h 241 17) k) ∨ (x = 3 ∧ ri_ (hp_I h 243) (hp_I h 259) k ∧ ¬ ho_ (hp_I h 243) (ct_ h) (hp_I h 259) nC (hp_I h 241 16) (hp_I h 241 17) k) ∨ (x = 4 ∧ ho_ (hp_I h 243) (ct_ h) (hp_I h 259) nC (hp_I h 241 16) (hp_I h 241 17) k ∧ ¬ ri_ (hp_I h 243) (hp_I h 259) k))) (fun z hz => ?_) (fun hj131 => ?_)
        · skip
          subst hz
          have hgc : nI (gc_ (rd_ h nC p x) k) + b2c (x = 0 ∨ (x = 1 ∧ ri_ (hp_I h 243) (hp_I h 259) k) ∨ (x = 2 ∧ ho_ (hp_I h 243) (ct_ h) (hp_I h 259) nC (hp_I h 241 16) (hp_I h 241 17) k) ∨ (x = 3 ∧ ri_ (hp_I h 243) (hp_I h 259) k ∧ ¬ ho_ (hp_I h 243) (ct_ h) (hp_I h 259) nC (hp_I h 241 16) (hp_I h 241 17) k) ∨ (x = 4 ∧ ho_ (hp_I h 243) (ct_ h) (hp_I h 259) nC (hp_I h 241 16) (hp_I h 241 17) k ∧ ¬ ri_ (hp_I h 243) (hp_I h 259) k)) = nI (gc_ (rd_ h nC p x) (k + 1)) := by rw [← gc_a, show b2c (x = 0 ∨ (x = 1 ∧ ri_ (hp_I h 243) (hp_I h 259) k) ∨ (x = 2 ∧ ho_ (hp_I h 243) (ct_ h) (hp_I h 259) nC (hp_I h 241 16) (hp_I h 241 17) k) ∨ (x = 3 ∧ ri_ (hp_I h 243) (hp_I h 259) k ∧ ¬ ho_ (hp_I h 243) (ct_ h) (hp_I h 259) nC (hp_I h 241 16) (hp_I h 241 17) k) ∨ (x = 4 ∧ ho_ (hp_I h 243) (ct_ h) (hp_I h 259) nC (hp_I h 241 16) (hp_I h 241 17) k ∧ ¬ ri_ (hp_I h 243) (hp_I h 259) k)) = b2c (rd_ h nC p x k) from b2c_c ⟨fun z => ⟨Classical.not_not.mp (fun y => y b49), z⟩, fun z => z.2⟩]
          refine v_iadd dX4_record_131 ?_
          rw [hgc]
          refine v_istore_n dX4_record_132 rfl (by decide) ?_
          refine v_iinc dX4_record_133 rfl (by first | with_reducible exact nI_inc _ | exact rfl) (by decide) ?_
          refine v_goto (tgt := 32) dX4_record_136 (by decide) ?_
          first | refine v_loc2 (by repeat' (first | with_reducible exact lsub_n | with_reducible refine lsub_c ?_ ?_ | with_reducible refine lk_hit ?_ | with_reducible refine lk_miss (by decide) ?_ ?_ | exact rfl)) (IH (k + 1) h66 ⟨by omega, fr_tr hI2 hf⟩ (by omega)) | (have hgn : gc_ (rd_ h nC p x) (k + 1) = gc_ (rd_ h nC p x) k := cf_f (fun z => b49 z.1); refine v_loc2 (l' := [(0, .ref 241), (1, .int p), (2, .int x), (3, .int (nI (gc_ (rd_ h nC p x) (k + 1)))), (4, .int (nI (k + 1)))]) (by rw [hgn]; exact (by repeat' (first | with_reducible exact lsub_n | with_reducible refine lsub_c ?_ ?_ | with_reducible refine lk_hit ?_ | with_reducible refine lk_miss (by decide) ?_ ?_ | exact rfl))) (IH (k + 1) hh ⟨by omega, hI2⟩ (by omega)))
        · skip
          refine v_iload_n dX4_record_72 rfl rfl ?_
          refine v_if_eq (tgt := 126) dX4_record_73 (by decide) (fun b73 => ?_) (fun b73 => ?_)
          · skip
            refine v_iconst (v := 1) dX4_record_126 (by decide) ?_
            refine v_goto (tgt := 131) dX4_record_127 (by decide) ?_
            exact hj131 _ (by (try simp only [b2c_0, b2c_n0] at *); first | exact (b2c_t (by grind)).symm | exact (b2c_f (by grind)).symm)
          · skip
            refine v_iload_n dX4_record_76 rfl rfl ?_
            refine v_iconst (v := 1) dX4_record_77 (by decide) ?_
            refine v_icmp_ne (tgt := 86) dX4_record_78 (by decide) (fun b78 => ?_) (fun b78 => ?_)
            · skip
              refine v_iload_n dX4_record_86 rfl rfl ?_
              refine v_iconst (v := 2) dX4_record_87 (by decide) ?_
              refine v_icmp_ne (tgt := 96) dX4_record_88 (by decide) (fun b88 => ?_) (fun b88 => ?_)
              · skip
                refine v_iload_n dX4_record_96 rfl rfl ?_
                refine v_iconst (v := 3) dX4_record_97 (by decide) ?_
                refine v_icmp_ne (tgt := 111) dX4_record_98 (by decide) (fun b98 => ?_) (fun b98 => ?_)
                · skip
                  refine v_iload_n dX4_record_111 rfl rfl ?_
                  refine v_iconst (v := 4) dX4_record_112 (by decide) ?_
                  refine v_icmp_ne (tgt := 130) dX4_record_113 (by decide) (fun b113 => ?_) (fun b113 => ?_)
                  · skip
                    refine v_iconst (v := 0) dX4_record_130 (by decide) ?_
                    exact hj131 _ (by (try simp only [b2c_0, b2c_n0] at *); first | exact (b2c_t (by grind)).symm | exact (b2c_f (by grind)).symm)
                  · skip
                    refine v_iload dX4_record_116 rfl ?_
                    refine v_if_eq (tgt := 130) dX4_record_118 (by decide) (fun b118 => ?_) (fun b118 => ?_)
                    · skip
                      refine v_iconst (v := 0) dX4_record_130 (by decide) ?_
                      exact hj131 _ (by (try simp only [b2c_0, b2c_n0] at *); first | exact (b2c_t (by grind)).symm | exact (b2c_f (by grind)).symm)
                    · skip
                      refine v_iload dX4_record_121 rfl ?_
                      refine v_if_ne (tgt := 130) dX4_record_123 (by decide) (fun b123 => ?_) (fun b123 => ?_)
                      · skip
                        refine v_iconst (v := 0) dX4_record_130 (by decide) ?_
                        exact hj131 _ (by (try simp only [b2c_0, b2c_n0] at *); first | exact (b2c_t (by grind)).symm | exact (b2c_f (by grind)).symm)
                      · skip
                        refine v_iconst (v := 1) dX4_record_126 (by decide) ?_
                        refine v_goto (tgt := 131) dX4_record_127 (by decide) ?_
                        exact hj131 _ (by (try simp only [b2c_0, b2c_n0] at *); first | exact (b2c_t (by grind)).symm | exact (b2c_f (by grind)).symm)
                · skip
                  refine v_iload dX4_record_101 rfl ?_
                  refine v_if_eq (tgt := 111) dX4_record_103 (by decide) (fun b103 => ?_) (fun b103 => ?_)
                  · skip
                    refine v_iload_n dX4_record_111 rfl rfl ?_
                    refine v_iconst (v := 4) dX4_record_112 (by decide) ?_
                    refine v_icmp_ne (tgt := 130) dX4_record_113 (by decide) (fun b113 => ?_) (fun b113 => ?_)
                    · skip
                      refine v_iconst (v := 0) dX4_record_130 (by decide) ?_
                      exact hj131 _ (by (try simp only [b2c_0, b2c_n0] at *); first | exact (b2c_t (by grind)).symm | exact (b2c_f (by grind)).symm)
                    · skip
                      refine v_iload dX4_record_116 rfl ?_
                      refine v_if_eq (tgt := 130) dX4_record_118 (by decide) (fun b118 => ?_) (fun b118 => ?_)
                      · skip
                        refine v_iconst (v := 0) dX4_record_130 (by decide) ?_
                        exact hj131 _ (by (try simp only [b2c_0, b2c_n0] at *); first | exact (b2c_t (by grind)).symm | exact (b2c_f (by grind)).symm)
                      · skip
                        refine v_iload dX4_record_121 rfl ?_
                        refine v_if_ne (tgt := 130) dX4_record_123 (by decide) (fun b123 => ?_) (fun b123 => ?_)
                        · skip
                          refine v_iconst (v := 0) dX4_record_130 (by decide) ?_
                          exact hj131 _ (by (try simp only [b2c_0, b2c_n0] at *); first | exact (b2c_t (by grind)).symm | exact (b2c_f (by grind)).symm)
                        · skip
                          refine v_iconst (v := 1) dX4_record_126 (by decide) ?_
                          refine v_goto (tgt := 131) dX4_record_127 (by decide) ?_
                          exact hj131 _ (by (try simp only [b2c_0, b2c_n0] at *); first | exact (b2c_t (by grind)).symm | exact (b2c_f (by grind)).symm)
                  · skip
                    refine v_iload dX4_record_106 rfl ?_
                    refine v_if_eq (tgt := 126) dX4_record_108 (by decide) (fun b108 => ?_) (fun b108 => ?_)
                    · skip
                      refine v_iconst (v := 1) dX4_record_126 (by decide) ?_
                      refine v_goto (tgt := 131) dX4_record_127 (by decide) ?_
                      exact hj131 _ (by (try simp only [b2c_0, b2c_n0] at *); first | exact (b2c_t (by grind)).symm | exact (b2c_f (by grind)).symm)
                    · skip
                      refine v_iload_n dX4_record_111 rfl rfl ?_
                      refine v_iconst (v := 4) dX4_record_112 (by decide) ?_
                      refine v_icmp_ne (tgt := 130) dX4_record_113 (by decide) (fun b113 => ?_) (fun b113 => ?_)
                      · skip
                        refine v_iconst (v := 0) dX4_record_130 (by decide) ?_
                        exact hj131 _ (by (try simp only [b2c_0, b2c_n0] at *); first | exact (b2c_t (by grind)).symm | exact (b2c_f (by grind)).symm)
                      · skip
                        refine v_iload dX4_record_116 rfl ?_
                        refine v_if_eq (tgt := 130) dX4_record_118 (by decide) (fun b118 => ?_) (fun b118 => ?_)
                        · skip
                          refine v_iconst (v := 0) dX4_record_130 (by decide) ?_
                          exact hj131 _ (by (try simp only [b2c_0, b2c_n0] at *); first | exact (b2c_t (by grind)).symm | exact (b2c_f (by grind)).symm)
                        · skip
                          refine v_iload dX4_record_121 rfl ?_
                          refine v_if_ne (tgt := 130) dX4_record_123 (by decide) (fun b123 => ?_) (fun b123 => ?_)
                          · skip
                            refine v_iconst (v := 0) dX4_record_130 (by decide) ?_
                            exact hj131 _ (by (try simp only [b2c_0, b2c_n0] at *); first | exact (b2c_t (by grind)).symm | exact (b2c_f (by grind)).symm)
                          · skip
                            refine v_iconst (v := 1) dX4_record_126 (by decide) ?_
                            refine v_goto (tgt := 131) dX4_record_127 (by decide) ?_
                            exact hj131 _ (by (try simp only [b2c_0, b2c_n0] at *); first | exact (b2c_t (by grind)).symm | exact (b2c_f (by grind)).symm)
              · skip
                refine v_iload dX4_record_91 rfl ?_
                refine v_if_ne (tgt := 126) dX4_record_93 (by decide) (fun b93 => ?_) (fun b93 => ?_)
                · skip
                  refine v_iconst (v := 1) dX4_record_126 (by decide) ?_
                  refine v_goto (tgt := 131) dX4_record_127 (by decide) ?_
                  exact hj131 _ (by (try simp only [b2c_0, b2c_n0] at *); first | exact (b2c_t (by grind)).symm | exact (b2c_f (by grind)).symm)
                · skip
                  refine v_iload_n dX4_record_96 rfl rfl ?_
                  refine v_iconst (v := 3) dX4_record_97 (by decide) ?_
                  refine v_icmp_ne (tgt := 111) dX4_record_98 (by decide) (fun b98 => ?_) (fun b98 => ?_)
                  · skip
                    refine v_iload_n dX4_record_111 rfl rfl ?_
                    refine v_iconst (v := 4) dX4_record_112 (by decide) ?_
                    refine v_icmp_ne (tgt := 130) dX4_record_113 (by decide) (fun b113 => ?_) (fun b113 => ?_)
                    · skip
                      refine v_iconst (v := 0) dX4_record_130 (by decide) ?_
                      exact hj131 _ (by (try simp only [b2c_0, b2c_n0] at *); first | exact (b2c_t (by grind)).symm | exact (b2c_f (by grind)).symm)
                    · skip
                      refine v_iload dX4_record_116 rfl ?_
                      refine v_if_eq (tgt := 130) dX4_record_118 (by decide) (fun b118 => ?_) (fun b118 => ?_)
                      · skip
                        refine v_iconst (v := 0) dX4_record_130 (by decide) ?_
                        exact hj131 _ (by (try simp only [b2c_0, b2c_n0] at *); first | exact (b2c_t (by grind)).symm | exact (b2c_f (by grind)).symm)
                      · skip
                        refine v_iload dX4_record_121 rfl ?_
                        refine v_if_ne (tgt := 130) dX4_record_123 (by decide) (fun b123 => ?_) (fun b123 => ?_)
                        · skip
                          refine v_iconst (v := 0) dX4_record_130 (by decide) ?_
                          exact hj131 _ (by (try simp only [b2c_0, b2c_n0] at *); first | exact (b2c_t (by grind)).symm | exact (b2c_f (by grind)).symm)
                        · skip
                          refine v_iconst (v := 1) dX4_record_126 (by decide) ?_
                          refine v_goto (tgt := 131) dX4_record_127 (by decide) ?_
                          exact hj131 _ (by (try simp only [b2c_0, b2c_n0] at *); first | exact (b2c_t (by grind)).symm | exact (b2c_f (by grind)).symm)
                  · skip
                    refine v_iload dX4_record_101 rfl ?_
                    refine v_if_eq (tgt := 111) dX4_record_103 (by decide) (fun b103 => ?_) (fun b103 => ?_)
                    · skip
                      refine v_iload_n dX4_record_111 rfl rfl ?_
                      refine v_iconst (v := 4) dX4_record_112 (by decide) ?_
                      refine v_icmp_ne (tgt := 130) dX4_record_113 (by decide) (fun b113 => ?_) (fun b113 => ?_)
                      · skip
                        refine v_iconst (v := 0) dX4_record_130 (by decide) ?_
                        exact hj131 _ (by (try simp only [b2c_0, b2c_n0] at *); first | exact (b2c_t (by grind)).symm | exact (b2c_f (by grind)).symm)
                      · skip
                        refine v_iload dX4_record_116 rfl ?_
                        refine v_if_eq (tgt := 130) dX4_record_118 (by decide) (fun b118 => ?_) (fun b118 => ?_)
                        · skip
                          refine v_iconst (v := 0) dX4_record_130 (by decide) ?_
                          exact hj131 _ (by (try simp only [b2c_0, b2c_n0] at *); first | exact (b2c_t (by grind)).symm | exact (b2c_f (by grind)).symm)
                        · skip
                          refine v_iload dX4_record_121 rfl ?_
                          refine v_if_ne (tgt := 130) dX4_record_123 (by decide) (fun b123 => ?_) (fun b123 => ?_)
                          · skip
                            refine v_iconst (v := 0) dX4_record_130 (by decide) ?_
                            exact hj131 _ (by (try simp only [b2c_0, b2c_n0] at *); first | exact (b2c_t (by grind)).symm | exact (b2c_f (by grind)).symm)
                          · skip
                            refine v_iconst (v := 1) dX4_record_126 (by decide) ?_
                            refine v_goto (tgt := 131) dX4_record_127 (by decide) ?_
                            exact hj131 _ (by (try simp only [b2c_0, b2c_n0] at *); first | exact (b2c_t (by grind)).symm | exact (b2c_f (by grind)).symm)
                    · skip
                      refine v_iload dX4_record_106 rfl ?_
                      refine v_if_eq (tgt := 126) dX4_record_108 (by decide) (fun b108 => ?_) (fun b108 => ?_)
                      · skip
                        refine v_iconst (v := 1) dX4_record_126 (by decide) ?_
                        refine v_goto (tgt := 131) dX4_record_127 (by decide) ?_
                        exact hj131 _ (by (try simp only [b2c_0, b2c_n0] at *); first | exact (b2c_t (by grind)).symm | exact (b2c_f (by grind)).symm)
                      · skip
                        refine v_iload_n dX4_record_111 rfl rfl ?_
                        refine v_iconst (v := 4) dX4_record_112 (by decide) ?_
                        refine v_icmp_ne (tgt := 130) dX4_record_113 (by decide) (fun b113 => ?_) (fun b113 => ?_)
                        · skip
                          refine v_iconst (v := 0) dX4_record_130 (by decide) ?_
                          exact hj131 _ (by (try simp only [b2c_0, b2c_n0] at *); first | exact (b2c_t (by grind)).symm | exact (b2c_f (by grind)).symm)
                        · skip
                          refine v_iload dX4_record_116 rfl ?_
                          refine v_if_eq (tgt := 130) dX4_record_118 (by decide) (fun b118 => ?_) (fun b118 => ?_)
                          · skip
                            refine v_iconst (v := 0) dX4_record_130 (by decide) ?_
                            exact hj131 _ (by (try simp only [b2c_0, b2c_n0] at *); first | exact (b2c_t (by grind)).symm | exact (b2c_f (by grind)).symm)
                          · skip
                            refine v_iload dX4_record_121 rfl ?_
                            refine v_if_ne (tgt := 130) dX4_record_123 (by decide) (fun b123 => ?_) (fun b123 => ?_)
                            · skip
                              refine v_iconst (v := 0) dX4_record_130 (by decide) ?_
                              exact hj131 _ (by (try simp only [b2c_0, b2c_n0] at *); first | exact (b2c_t (by grind)).symm | exact (b2c_f (by grind)).symm)
                            · skip
                              refine v_iconst (v := 1) dX4_record_126 (by decide) ?_
                              refine v_goto (tgt := 131) dX4_record_127 (by decide) ?_
                              exact hj131 _ (by (try simp only [b2c_0, b2c_n0] at *); first | exact (b2c_t (by grind)).symm | exact (b2c_f (by grind)).symm)
            · skip
              refine v_iload dX4_record_81 rfl ?_
              refine v_if_ne (tgt := 126) dX4_record_83 (by decide) (fun b83 => ?_) (fun b83 => ?_)
              · skip
                refine v_iconst (v := 1) dX4_record_126 (by decide) ?_
                refine v_goto (tgt := 131) dX4_record_127 (by decide) ?_
                exact hj131 _ (by (try simp only [b2c_0, b2c_n0] at *); first | exact (b2c_t (by grind)).symm | exact (b2c_f (by grind)).symm)
              · skip
                refine v_iload_n dX4_record_86 rfl rfl ?_
                refine v_iconst (v := 2) dX4_record_87 (by decide) ?_
                refine v_icmp_ne (tgt := 96) dX4_record_88 (by decide) (fun b88 => ?_) (fun b88 => ?_)
                · skip
                  refine v_iload_n dX4_record_96 rfl rfl ?_
                  refine v_iconst (v := 3) dX4_record_97 (by decide) ?_
                  refine v_icmp_ne (tgt := 111) dX4_record_98 (by decide) (fun b98 => ?_) (fun b98 => ?_)
                  · skip
                    refine v_iload_n dX4_record_111 rfl rfl ?_
                    refine v_iconst (v := 4) dX4_record_112 (by decide) ?_
                    refine v_icmp_ne (tgt := 130) dX4_record_113 (by decide) (fun b113 => ?_) (fun b113 => ?_)
                    · skip
                      refine v_iconst (v := 0) dX4_record_130 (by decide) ?_
                      exact hj131 _ (by (try simp only [b2c_0, b2c_n0] at *); first | exact (b2c_t (by grind)).symm | exact (b2c_f (by grind)).symm)
                    · skip
                      refine v_iload dX4_record_116 rfl ?_
                      refine v_if_eq (tgt := 130) dX4_record_118 (by decide) (fun b118 => ?_) (fun b118 => ?_)
                      · skip
                        refine v_iconst (v := 0) dX4_record_130 (by decide) ?_
                        exact hj131 _ (by (try simp only [b2c_0, b2c_n0] at *); first | exact (b2c_t (by grind)).symm | exact (b2c_f (by grind)).symm)
                      · skip
                        refine v_iload dX4_record_121 rfl ?_
                        refine v_if_ne (tgt := 130) dX4_record_123 (by decide) (fun b123 => ?_) (fun b123 => ?_)
                        · skip
                          refine v_iconst (v := 0) dX4_record_130 (by decide) ?_
                          exact hj131 _ (by (try simp only [b2c_0, b2c_n0] at *); first | exact (b2c_t (by grind)).symm | exact (b2c_f (by grind)).symm)
                        · skip
                          refine v_iconst (v := 1) dX4_record_126 (by decide) ?_
                          refine v_goto (tgt := 131) dX4_record_127 (by decide) ?_
                          exact hj131 _ (by (try simp only [b2c_0, b2c_n0] at *); first | exact (b2c_t (by grind)).symm | exact (b2c_f (by grind)).symm)
                  · skip
                    refine v_iload dX4_record_101 rfl ?_
                    refine v_if_eq (tgt := 111) dX4_record_103 (by decide) (fun b103 => ?_) (fun b103 => ?_)
                    · skip
                      refine v_iload_n dX4_record_111 rfl rfl ?_
                      refine v_iconst (v := 4) dX4_record_112 (by decide) ?_
                      refine v_icmp_ne (tgt := 130) dX4_record_113 (by decide) (fun b113 => ?_) (fun b113 => ?_)
                      · skip
                        refine v_iconst (v := 0) dX4_record_130 (by decide) ?_
                        exact hj131 _ (by (try simp only [b2c_0, b2c_n0] at *); first | exact (b2c_t (by grind)).symm | exact (b2c_f (by grind)).symm)
                      · skip
                        refine v_iload dX4_record_116 rfl ?_
                        refine v_if_eq (tgt := 130) dX4_record_118 (by decide) (fun b118 => ?_) (fun b118 => ?_)
                        · skip
                          refine v_iconst (v := 0) dX4_record_130 (by decide) ?_
                          exact hj131 _ (by (try simp only [b2c_0, b2c_n0] at *); first | exact (b2c_t (by grind)).symm | exact (b2c_f (by grind)).symm)
                        · skip
                          refine v_iload dX4_record_121 rfl ?_
                          refine v_if_ne (tgt := 130) dX4_record_123 (by decide) (fun b123 => ?_) (fun b123 => ?_)
                          · skip
                            refine v_iconst (v := 0) dX4_record_130 (by decide) ?_
                            exact hj131 _ (by (try simp only [b2c_0, b2c_n0] at *); first | exact (b2c_t (by grind)).symm | exact (b2c_f (by grind)).symm)
                          · skip
                            refine v_iconst (v := 1) dX4_record_126 (by decide) ?_
                            refine v_goto (tgt := 131) dX4_record_127 (by decide) ?_
                            exact hj131 _ (by (try simp only [b2c_0, b2c_n0] at *); first | exact (b2c_t (by grind)).symm | exact (b2c_f (by grind)).symm)
                    · skip
                      refine v_iload dX4_record_106 rfl ?_
                      refine v_if_eq (tgt := 126) dX4_record_108 (by decide) (fun b108 => ?_) (fun b108 => ?_)
                      · skip
                        refine v_iconst (v := 1) dX4_record_126 (by decide) ?_
                        refine v_goto (tgt := 131) dX4_record_127 (by decide) ?_
                        exact hj131 _ (by (try simp only [b2c_0, b2c_n0] at *); first | exact (b2c_t (by grind)).symm | exact (b2c_f (by grind)).symm)
                      · skip
                        refine v_iload_n dX4_record_111 rfl rfl ?_
                        refine v_iconst (v := 4) dX4_record_112 (by decide) ?_
                        refine v_icmp_ne (tgt := 130) dX4_record_113 (by decide) (fun b113 => ?_) (fun b113 => ?_)
                        · skip
                          refine v_iconst (v := 0) dX4_record_130 (by decide) ?_
                          exact hj131 _ (by (try simp only [b2c_0, b2c_n0] at *); first | exact (b2c_t (by grind)).symm | exact (b2c_f (by grind)).symm)
                        · skip
                          refine v_iload dX4_record_116 rfl ?_
                          refine v_if_eq (tgt := 130) dX4_record_118 (by decide) (fun b118 => ?_) (fun b118 => ?_)
                          · skip
                            refine v_iconst (v := 0) dX4_record_130 (by decide) ?_
                            exact hj131 _ (by (try simp only [b2c_0, b2c_n0] at *); first | exact (b2c_t (by grind)).symm | exact (b2c_f (by grind)).symm)
                          · skip
                            refine v_iload dX4_record_121 rfl ?_
                            refine v_if_ne (tgt := 130) dX4_record_123 (by decide) (fun b123 => ?_) (fun b123 => ?_)
                            · skip
                              refine v_iconst (v := 0) dX4_record_130 (by decide) ?_
                              exact hj131 _ (by (try simp only [b2c_0, b2c_n0] at *); first | exact (b2c_t (by grind)).symm | exact (b2c_f (by grind)).symm)
                            · skip
                              refine v_iconst (v := 1) dX4_record_126 (by decide) ?_
                              refine v_goto (tgt := 131) dX4_record_127 (by decide) ?_
                              exact hj131 _ (by (try simp only [b2c_0, b2c_n0] at *); first | exact (b2c_t (by grind)).symm | exact (b2c_f (by grind)).symm)
                · skip
                  refine v_iload dX4_record_91 rfl ?_
                  refine v_if_ne (tgt := 126) dX4_record_93 (by decide) (fun b93 => ?_) (fun b93 => ?_)
                  · skip
                    refine v_iconst (v := 1) dX4_record_126 (by decide) ?_
                    refine v_goto (tgt := 131) dX4_record_127 (by decide) ?_
                    exact hj131 _ (by (try simp only [b2c_0, b2c_n0] at *); first | exact (b2c_t (by grind)).symm | exact (b2c_f (by grind)).symm)
                  · skip
                    refine v_iload_n dX4_record_96 rfl rfl ?_
                    refine v_iconst (v := 3) dX4_record_97 (by decide) ?_
                    refine v_icmp_ne (tgt := 111) dX4_record_98 (by decide) (fun b98 => ?_) (fun b98 => ?_)
                    · skip
                      refine v_iload_n dX4_record_111 rfl rfl ?_
                      refine v_iconst (v := 4) dX4_record_112 (by decide) ?_
                      refine v_icmp_ne (tgt := 130) dX4_record_113 (by decide) (fun b113 => ?_) (fun b113 => ?_)
                      · skip
                        refine v_iconst (v := 0) dX4_record_130 (by decide) ?_
                        exact hj131 _ (by (try simp only [b2c_0, b2c_n0] at *); first | exact (b2c_t (by grind)).symm | exact (b2c_f (by grind)).symm)
                      · skip
                        refine v_iload dX4_record_116 rfl ?_
                        refine v_if_eq (tgt := 130) dX4_record_118 (by decide) (fun b118 => ?_) (fun b118 => ?_)
                        · skip
                          refine v_iconst (v := 0) dX4_record_130 (by decide) ?_
                          exact hj131 _ (by (try simp only [b2c_0, b2c_n0] at *); first | exact (b2c_t (by grind)).symm | exact (b2c_f (by grind)).symm)
                        · skip
                          refine v_iload dX4_record_121 rfl ?_
                          refine v_if_ne (tgt := 130) dX4_record_123 (by decide) (fun b123 => ?_) (fun b123 => ?_)
                          · skip
                            refine v_iconst (v := 0) dX4_record_130 (by decide) ?_
                            exact hj131 _ (by (try simp only [b2c_0, b2c_n0] at *); first | exact (b2c_t (by grind)).symm | exact (b2c_f (by grind)).symm)
                          · skip
                            refine v_iconst (v := 1) dX4_record_126 (by decide) ?_
                            refine v_goto (tgt := 131) dX4_record_127 (by decide) ?_
                            exact hj131 _ (by (try simp only [b2c_0, b2c_n0] at *); first | exact (b2c_t (by grind)).symm | exact (b2c_f (by grind)).symm)
                    · skip
                      refine v_iload dX4_record_101 rfl ?_
                      refine v_if_eq (tgt := 111) dX4_record_103 (by decide) (fun b103 => ?_) (fun b103 => ?_)
                      · skip
                        refine v_iload_n dX4_record_111 rfl rfl ?_
                        refine v_iconst (v := 4) dX4_record_112 (by decide) ?_
                        refine v_icmp_ne (tgt := 130) dX4_record_113 (by decide) (fun b113 => ?_) (fun b113 => ?_)
                        · skip
                          refine v_iconst (v := 0) dX4_record_130 (by decide) ?_
                          exact hj131 _ (by (try simp only [b2c_0, b2c_n0] at *); first | exact (b2c_t (by grind)).symm | exact (b2c_f (by grind)).symm)
                        · skip
                          refine v_iload dX4_record_116 rfl ?_
                          refine v_if_eq (tgt := 130) dX4_record_118 (by decide) (fun b118 => ?_) (fun b118 => ?_)
                          · skip
                            refine v_iconst (v := 0) dX4_record_130 (by decide) ?_
                            exact hj131 _ (by (try simp only [b2c_0, b2c_n0] at *); first | exact (b2c_t (by grind)).symm | exact (b2c_f (by grind)).symm)
                          · skip
                            refine v_iload dX4_record_121 rfl ?_
                            refine v_if_ne (tgt := 130) dX4_record_123 (by decide) (fun b123 => ?_) (fun b123 => ?_)
                            · skip
                              refine v_iconst (v := 0) dX4_record_130 (by decide) ?_
                              exact hj131 _ (by (try simp only [b2c_0, b2c_n0] at *); first | exact (b2c_t (by grind)).symm | exact (b2c_f (by grind)).symm)
                            · skip
                              refine v_iconst (v := 1) dX4_record_126 (by decide) ?_
                              refine v_goto (tgt := 131) dX4_record_127 (by decide) ?_
                              exact hj131 _ (by (try simp only [b2c_0, b2c_n0] at *); first | exact (b2c_t (by grind)).symm | exact (b2c_f (by grind)).symm)
                      · skip
                        refine v_iload dX4_record_106 rfl ?_
                        refine v_if_eq (tgt := 126) dX4_record_108 (by decide) (fun b108 => ?_) (fun b108 => ?_)
                        · skip
                          refine v_iconst (v := 1) dX4_record_126 (by decide) ?_
                          refine v_goto (tgt := 131) dX4_record_127 (by decide) ?_
                          exact hj131 _ (by (try simp only [b2c_0, b2c_n0] at *); first | exact (b2c_t (by grind)).symm | exact (b2c_f (by grind)).symm)
                        · skip
                          refine v_iload_n dX4_record_111 rfl rfl ?_
                          refine v_iconst (v := 4) dX4_record_112 (by decide) ?_
                          refine v_icmp_ne (tgt := 130) dX4_record_113 (by decide) (fun b113 => ?_) (fun b113 => ?_)
                          · skip
                            refine v_iconst (v := 0) dX4_record_130 (by decide) ?_
                            exact hj131 _ (by (try simp only [b2c_0, b2c_n0] at *); first | exact (b2c_t (by grind)).symm | exact (b2c_f (by grind)).symm)
                          · skip
                            refine v_iload dX4_record_116 rfl ?_
                            refine v_if_eq (tgt := 130) dX4_record_118 (by decide) (fun b118 => ?_) (fun b118 => ?_)
                            · skip
                              refine v_iconst (v := 0) dX4_record_130 (by decide) ?_
                              exact hj131 _ (by (try simp only [b2c_0, b2c_n0] at *); first | exact (b2c_t (by grind)).symm | exact (b2c_f (by grind)).symm)
                            · skip
                              refine v_iload dX4_record_121 rfl ?_
                              refine v_if_ne (tgt := 130) dX4_record_123 (by decide) (fun b123 => ?_) (fun b123 => ?_)
                              · skip
                                refine v_iconst (v := 0) dX4_record_130 (by decide) ?_
                                exact hj131 _ (by (try simp only [b2c_0, b2c_n0] at *); first | exact (b2c_t (by grind)).symm | exact (b2c_f (by grind)).symm)
                              · skip
                                refine v_iconst (v := 1) dX4_record_126 (by decide) ?_
                                refine v_goto (tgt := 131) dX4_record_127 (by decide) ?_
                                exact hj131 _ (by (try simp only [b2c_0, b2c_n0] at *); first | exact (b2c_t (by grind)).symm | exact (b2c_f (by grind)).symm)
      · skip
        refine v_goto (tgt := 133) dX4_record_52 (by decide) ?_
        refine v_iinc dX4_record_133 rfl (by first | with_reducible exact nI_inc _ | exact rfl) (by decide) ?_
        refine v_goto (tgt := 32) dX4_record_136 (by decide) ?_
        first | refine v_loc2 (by repeat' (first | with_reducible exact lsub_n | with_reducible refine lsub_c ?_ ?_ | with_reducible refine lk_hit ?_ | with_reducible refine lk_miss (by decide) ?_ ?_ | exact rfl)) (IH (k + 1) h66 ⟨by omega, fr_tr hI2 hf⟩ (by omega)) | (have hgn : gc_ (rd_ h nC p x) (k + 1) = gc_ (rd_ h nC p x) k := cf_f (fun z => b49 z.1); refine v_loc2 (l' := [(0, .ref 241), (1, .int p), (2, .int x), (3, .int (nI (gc_ (rd_ h nC p x) (k + 1)))), (4, .int (nI (k + 1)))]) (by rw [hgn]; exact (by repeat' (first | with_reducible exact lsub_n | with_reducible refine lsub_c ?_ ?_ | with_reducible refine lk_hit ?_ | with_reducible refine lk_miss (by decide) ?_ ?_ | exact rfl))) (IH (k + 1) hh ⟨by omega, hI2⟩ (by omega)))
  · skip
    refine v_cut 25 (¬ ((0 ≤ p ∧ p < hp_I h 241 4) ∧ (0 ≤ x ∧ x ≤ 4))) (fun hz25 => ?_) (fun hc25 => ?_)
    · skip
      refine v_iconst (v := (-1)) dX4_record_25 (by decide) ?_
      exact v_reti dX4_record_26 rfl (Pf_i hpt (by unfold sp_record; rw [cf_f hz25]))
    · skip
      refine v_aload_n dX4_record_5 rfl rfl ?_
      refine v_iload_n dX4_record_6 rfl rfl ?_
      refine v_pV mtX4_isPerson q1801 q1803 qs59 rfl (by decide) dX4_record_7 (c_X4_isPerson hm _) (mK_obj hm) (by decide) ?_
      refine v_if_eq (tgt := 25) dX4_record_10 (by decide) (fun b10 => ?_) (fun b10 => ?_)
      · skip
        exact hc25 (by (try simp only [b2i_0, b2i_n0, b2c_0, b2c_n0] at *); (try simp only [th_4, th_33] at *); grind)
      · skip
        refine v_iload_n dX4_record_13 rfl rfl ?_
        refine v_i2l dX4_record_14 ?_
        refine v_lconst (v := (0 : Int32).toInt64) dX4_record_15 (by decide) ?_
        refine v_ldc2 (v := (4 : Int32).toInt64) q2148 dX4_record_16 (by decide) ?_
        refine v_pS mtX4_within q1790 q1791 dX4_record_19 (c_X4_within _ _ _) (by decide) ?_
        refine v_if_ne (tgt := 27) dX4_record_22 (by decide) (fun b22 => ?_) (fun b22 => ?_)
        · skip
          exact hc27 (by (try simp only [b2i_0, b2i_n0, b2c_0, b2c_n0] at *); (try simp only [th_4, th_33] at *); grind)
        · skip
          exact hc25 (by (try simp only [b2i_0, b2i_n0, b2c_0, b2c_n0] at *); (try simp only [th_4, th_33] at *); grind)

