set_option maxRecDepth 100000
theorem nI_dlt {k a : Nat} (hk : k < 2 ^ 31) (ha : a < 2 ^ 31) : nI k - 1 < nI a ↔ k ≤ a := by
  rcases k with _ | k
  · rw [show nI 0 - 1 = (-1 : Int32) from by decide]
    exact ⟨fun _ => Nat.zero_le _, fun _ => Int32.lt_of_lt_of_le (by decide : (-1 : Int32) < 0) (Int32.not_lt.mp (nI_pos ha))⟩
  · rw [nI_pred, nI_ltI (by omega) ha]
    omega
theorem gs_z (Q : Nat → Prop) (lo : Nat) : ∀ k, k ≤ lo → gs_ Q lo k = 0
  | 0, _ => rfl
  | k + 1, h => by rw [gs_s, if_neg (by omega), gs_z Q lo k (by omega)]
theorem gs_t {Q : Nat → Prop} {lo k : Nat} (h : lo ≤ k ∧ Q k) : gs_ Q lo (k + 1) = k + 1 := by rw [gs_s, if_pos h]
theorem gs_f {Q : Nat → Prop} {lo k : Nat} (h : ¬ Q k) : gs_ Q lo (k + 1) = gs_ Q lo k := by rw [gs_s, if_neg (fun z => h z.2)]
/-- one more second, hand and spot for a hop that leads on -/
def oh_ (B : Nat → Nat → Nat → Prop) (l : Nat → Nat) (g m s t i z : Nat) : Prop := B i t s ∧ ¬ z = s ∧ B i t z ∧ it0_ l g m z t
/-- the first such, by seconds, hands and spots -/
def F3_ (K : Nat → Nat → Nat → Prop) (n2 n1 f e : Nat) (p : Nat × Nat × Nat) : Prop := (f ≤ p.1 ∧ p.1 ≤ e) ∧ p.2.1 < n2 ∧ p.2.2 < n1 ∧ K p.1 p.2.1 p.2.2 ∧ (∀ t, f ≤ t → t < p.1 → ∀ i, i < n2 → ∀ z, z < n1 → ¬ K t i z) ∧ (∀ i, i < p.2.1 → ∀ z, z < n1 → ¬ K p.1 i z) ∧ ∀ z, z < p.2.2 → ¬ K p.1 p.2.1 z
theorem F3_u {K : Nat → Nat → Nat → Prop} {n2 n1 f e : Nat} {p q : Nat × Nat × Nat} (a : F3_ K n2 n1 f e p) (b : F3_ K n2 n1 f e q) : p = q := by
  obtain ⟨t, i, z⟩ := p
  obtain ⟨u, j, y⟩ := q
  obtain ⟨a1, a2, a3, a4, a5, a6, a7⟩ := a
  obtain ⟨b1, b2, b3, b4, b5, b6, b7⟩ := b
  simp only at *
  have e1 : t = u := by
    rcases Nat.lt_or_ge t u with z1 | z1
    · exact absurd a4 (b5 t a1.1 z1 i a2 z a3)
    · rcases Nat.lt_or_ge u t with z2 | z2
      · exact absurd b4 (a5 u b1.1 z2 j b2 y b3)
      · omega
  subst e1
  have e2 : i = j := by
    rcases Nat.lt_or_ge i j with z1 | z1
    · exact absurd a4 (b6 i z1 z a3)
    · rcases Nat.lt_or_ge j i with z2 | z2
      · exact absurd b4 (a6 j z2 y b3)
      · omega
  subst e2
  have e3 : z = y := by
    rcases Nat.lt_or_ge z y with z1 | z1
    · exact absurd a4 (b7 z z1)
    · rcases Nat.lt_or_ge y z with z2 | z2
      · exact absurd b4 (a7 y z2)
      · omega
  rw [e3]
noncomputable def f3_ (K : Nat → Nat → Nat → Prop) (n2 n1 f e : Nat) : Nat × Nat × Nat := @dite _ (∃ p, F3_ K n2 n1 f e p) (Classical.propDecidable _) (fun h => Classical.choose h) (fun _ => (0, 0, 0))
theorem f3_is {K : Nat → Nat → Nat → Prop} {n2 n1 f e : Nat} {p : Nat × Nat × Nat} (a : F3_ K n2 n1 f e p) : f3_ K n2 n1 f e = p := by
  unfold f3_
  rw [dif_pos ⟨p, a⟩]
  exact F3_u (Classical.choose_spec (⟨p, a⟩ : ∃ p, F3_ K n2 n1 f e p)) a
/-- a hop is written down -/
def up3_ (h : AH) (k : Nat) (p : Nat × Nat × Nat) : AH := up_I (up_I (up_I h 262 (3 * k) (nI p.1)) 262 (3 * k + 1) (nI p.2.1)) 262 (3 * k + 2) (nI p.2.2)
set_option maxHeartbeats 1000000 in
theorem c_X4_latestFrom {G : Gv} {h : AH} {A : Nat → Int32} {C : Nat → Nat → Int32} {sN nC : Nat} {S : Int32} (hv : sv_ok A sN) (hL : LD_ A C nC sN S h) {P m s g a e : Nat} (hP : P < 512) (hm9 : m < 10) (hs9 : s < sN + 1) (hg : g ≤ sN) (ha : a < 100) (he : e < 100) (hla : ∀ z, z < sN + 1 → 0 < m → hp_I h 261 (10 * m + z) = nI (la_ (fun i τ x => br_ A C nC sN S P i τ x) (2 * sN) sN g a e m z) - 1) : Ctr G 5 yX4_latestFrom cX4_latestFrom 12 (some .int) [.ref 241, .int (nI P), .int (nI (m + 1)), .int (nI s), .int (nI g), .int (nI a), .int (nI e)] h 0 0 (Pu h (.int (nI (la_ (fun i τ x => br_ A C nC sN S P i τ x) (2 * sN) sN g a e (m + 1) s) - 1))) := by
  refine ctr_of (own := RX4) (nm := "latestFrom") (by decide) (Nat.le_of_ble_eq_true rfl) ?_
  have hm := hL.1
  have hs := hL.2.1
  have hA := hL.2.2.1
  have h3 := sv_s hv
  refine v_iload dX4_latestFrom_0 rfl ?_
  refine v_istore dX4_latestFrom_2 (by decide) ?_
  refine v_loc2 (by repeat' (first | with_reducible exact lsub_n | with_reducible refine lsub_c ?_ ?_ | with_reducible refine lk_hit ?_ | with_reducible refine lk_miss (by decide) ?_ ?_ | (first | (rw [nI_pred]; done) | exact rfl))) (v_lp1 (fun (k : Nat) => k) (fun (k : Nat) => k ≤ e + 1 ∧ gs_ (fun t => ∃ i, i < 2 * sN ∧ br_ A C nC sN S P i t s ∧ ∃ z, z < sN + 1 ∧ ¬ z = s ∧ br_ A C nC sN S P i t z ∧ it0_ (la_ (fun i τ x => br_ A C nC sN S P i τ x) (2 * sN) sN g a e m) g m z t) a k = la_ (fun i τ x => br_ A C nC sN S P i τ x) (2 * sN) sN g a e (m + 1) s) (fun (k : Nat) => [(0, .ref 241), (1, .int (nI P)), (2, .int (nI (m + 1))), (3, .int (nI s)), (4, .int (nI g)), (5, .int (nI a)), (6, .int (nI e)), (7, .int (nI k - 1))]) (fun _ => []) (fun (k : Nat) => h) ?_ (e + 1) ⟨Nat.le_refl _, rfl⟩)
  intro k hI IH
  obtain ⟨hI1, hI2⟩ := hI
  refine v_iload dX4_latestFrom_4 rfl ?_
  refine v_iload dX4_latestFrom_6 rfl ?_
  refine v_icmp_lt (tgt := 121) dX4_latestFrom_8 (by decide) (fun b8 => ?_) (fun b8 => ?_)
  · skip
    rw [nI_dlt (by omega) (by omega)] at b8
    have hz : gs_ (fun t => ∃ i, i < 2 * sN ∧ br_ A C nC sN S P i t s ∧ ∃ z, z < sN + 1 ∧ ¬ z = s ∧ br_ A C nC sN S P i t z ∧ it0_ (la_ (fun i τ x => br_ A C nC sN S P i τ x) (2 * sN) sN g a e m) g m z t) a k = 0 := gs_z _ _ k b8
    refine v_iconst (v := (-1)) dX4_latestFrom_121 (by decide) ?_
    exact v_reti dX4_latestFrom_122 rfl (Pu_i (by rw [← hI2, hz]; decide))
  · skip
    rw [nI_dlt (by omega) (by omega)] at b8
    obtain ⟨j, rfl⟩ : ∃ j, k = j + 1 := ⟨k - 1, by omega⟩
    rw [nI_pred]
    refine v_aload_n dX4_latestFrom_11 rfl rfl ?_
    refine v_iload_n dX4_latestFrom_12 rfl rfl ?_
    refine v_iload dX4_latestFrom_13 rfl ?_
    refine v_pV mtX4_unseen q2112 q2114 qs105 rfl (by decide) dX4_latestFrom_15 (c_X4_unseen (t := j) hv hL hP (by omega)) (mK_obj hm) (by decide) ?_
    refine v_istore dX4_latestFrom_18 (by decide) ?_
    refine v_iconst (v := 0) dX4_latestFrom_20 (by decide) ?_
    refine v_istore dX4_latestFrom_21 (by decide) ?_
    refine v_loc2 (by repeat' (first | with_reducible exact lsub_n | with_reducible refine lsub_c ?_ ?_ | with_reducible refine lk_hit ?_ | with_reducible refine lk_miss (by decide) ?_ ?_ | exact rfl)) (v_lp1 (fun (i : Nat) => 2 * sN - i) (fun (i : Nat) => i ≤ 2 * sN ∧ ∀ i2, i2 < i → ∀ z, z < sN + 1 → br_ A C nC sN S P i2 j s → ¬ z = s → br_ A C nC sN S P i2 j z → ¬ it0_ (la_ (fun i τ x => br_ A C nC sN S P i τ x) (2 * sN) sN g a e m) g m z j) (fun (i : Nat) => [(0, .ref 241), (1, .int (nI P)), (2, .int (nI (m + 1))), (3, .int (nI s)), (4, .int (nI g)), (5, .int (nI a)), (6, .int (nI e)), (7, .int (nI j)), (8, .int (nI (sc_ (fun x => us_ A C nC sN S P x j) (sN + 1)))), (9, .int (nI i))]) (fun _ => []) (fun (i : Nat) => h) ?_ 0 ⟨Nat.zero_le _, fun i hi => absurd hi (Nat.not_lt_zero i)⟩)
    intro i hJ IH3
    obtain ⟨hJ1, hJ2⟩ := hJ
    refine v_iload dX4_latestFrom_23 rfl ?_
    refine v_iconst (v := 2) dX4_latestFrom_25 (by decide) ?_
    refine v_aload_n dX4_latestFrom_26 rfl rfl ?_
    refine v_getI fX4_24 dX4_latestFrom_27 (mK_obj hm) ?_
    rw [hs]
    refine v_imul dX4_latestFrom_30 ?_
    rw [nI_2]
    refine v_icmp_ge (tgt := 115) dX4_latestFrom_31 (by decide) (fun b31 => ?_) (fun b31 => ?_)
    · skip
      rw [nI_leI (by omega) (by omega)] at b31
      have hk3 : 2 * sN = i := by omega
      have hnx : gs_ (fun t => ∃ i, i < 2 * sN ∧ br_ A C nC sN S P i t s ∧ ∃ z, z < sN + 1 ∧ ¬ z = s ∧ br_ A C nC sN S P i t z ∧ it0_ (la_ (fun i τ x => br_ A C nC sN S P i τ x) (2 * sN) sN g a e m) g m z t) a (j + 1) = gs_ (fun t => ∃ i, i < 2 * sN ∧ br_ A C nC sN S P i t s ∧ ∃ z, z < sN + 1 ∧ ¬ z = s ∧ br_ A C nC sN S P i t z ∧ it0_ (la_ (fun i τ x => br_ A C nC sN S P i τ x) (2 * sN) sN g a e m) g m z t) a j := gs_f (fun ⟨i2, y1, y2, z, y3, y4, y5, y6⟩ => hJ2 i2 (by omega) z y3 y2 y4 y5 y6)
      refine v_iinc dX4_latestFrom_115 rfl (by first | with_reducible exact nI_inc _ | exact rfl) (by decide) ?_
      rw [nI_m1s]
      refine v_goto (tgt := 4) dX4_latestFrom_118 (by decide) ?_
      refine v_loc2 (by repeat' (first | with_reducible exact lsub_n | with_reducible refine lsub_c ?_ ?_ | with_reducible refine lk_hit ?_ | with_reducible refine lk_miss (by decide) ?_ ?_ | exact rfl)) (IH j ⟨by omega, by rw [← hnx]; exact hI2⟩ (by omega))
    · skip
      rw [nI_leI (by omega) (by omega)] at b31
      have hk3 : i < 2 * sN := by omega
      refine v_aload_n dX4_latestFrom_34 rfl rfl ?_
      refine v_iload_n dX4_latestFrom_35 rfl rfl ?_
      refine v_iload dX4_latestFrom_36 rfl ?_
      refine v_iload dX4_latestFrom_38 rfl ?_
      refine v_iload dX4_latestFrom_40 rfl ?_
      refine v_pV mtX4_bridge q2116 q2118 qs106 rfl (by decide) dX4_latestFrom_42 (c_X4_bridge (a := i) (t := j) hv hL hP (by omega) hk3) (mK_obj hm) (by decide) ?_
      refine v_istore dX4_latestFrom_45 (by decide) ?_
      refine v_iconst (v := 0) dX4_latestFrom_47 (by decide) ?_
      refine v_istore dX4_latestFrom_48 (by decide) ?_
      refine v_loc2 (by repeat' (first | with_reducible exact lsub_n | with_reducible refine lsub_c ?_ ?_ | with_reducible refine lk_hit ?_ | with_reducible refine lk_miss (by decide) ?_ ?_ | exact rfl)) (v_lp1 (fun (y : Nat) => sN + 1 - y) (fun (y : Nat) => y ≤ sN + 1 ∧ ∀ z, z < y → br_ A C nC sN S P i j s → ¬ z = s → br_ A C nC sN S P i j z → ¬ it0_ (la_ (fun i τ x => br_ A C nC sN S P i τ x) (2 * sN) sN g a e m) g m z j) (fun (y : Nat) => [(0, .ref 241), (1, .int (nI P)), (2, .int (nI (m + 1))), (3, .int (nI s)), (4, .int (nI g)), (5, .int (nI a)), (6, .int (nI e)), (7, .int (nI j)), (8, .int (nI (sc_ (fun x => us_ A C nC sN S P x j) (sN + 1)))), (9, .int (nI i)), (10, .int (nI (sc_ (fun x => br_ A C nC sN S P i j x) (sN + 1)))), (11, .int (nI y))]) (fun _ => []) (fun (y : Nat) => h) ?_ 0 ⟨Nat.zero_le _, fun i hi => absurd hi (Nat.not_lt_zero i)⟩)
      intro y hY IH4
      obtain ⟨hY1, hY2⟩ := hY
      refine v_iload dX4_latestFrom_50 rfl ?_
      refine v_aload_n dX4_latestFrom_52 rfl rfl ?_
      refine v_getI fX4_24 dX4_latestFrom_53 (mK_obj hm) ?_
      rw [hs]
      refine v_icmp_gt (tgt := 109) dX4_latestFrom_56 (by decide) (fun b56 => ?_) (fun b56 => ?_)
      · skip
        rw [nI_ltI (by omega) (by omega)] at b56
        have hk4 : sN + 1 = y := by omega
        have hfin : ∀ z, z < sN + 1 → br_ A C nC sN S P i j s → ¬ z = s → br_ A C nC sN S P i j z → ¬ it0_ (la_ (fun i τ x => br_ A C nC sN S P i τ x) (2 * sN) sN g a e m) g m z j := fun z hz => hY2 z (by omega)
        refine v_iinc dX4_latestFrom_109 rfl (by first | with_reducible exact nI_inc _ | exact rfl) (by decide) ?_
        refine v_goto (tgt := 23) dX4_latestFrom_112 (by decide) ?_
        refine v_loc2 (by repeat' (first | with_reducible exact lsub_n | with_reducible refine lsub_c ?_ ?_ | with_reducible refine lk_hit ?_ | with_reducible refine lk_miss (by decide) ?_ ?_ | exact rfl)) (IH3 (i + 1) ⟨by omega, fun i2 hi => (Nat.lt_succ_iff_lt_or_eq.mp hi).elim (hJ2 i2) (fun u => by subst u; exact hfin)⟩ (by omega))
      · skip
        rw [nI_ltI (by omega) (by omega)] at b56
        have hk4 : y < sN + 1 := by omega
        refine v_iload dX4_latestFrom_59 rfl ?_
        refine v_iload_n dX4_latestFrom_61 rfl rfl ?_
        refine v_pS mtX4_has q1859 q1860 dX4_latestFrom_62 (c_X4_has _ _) (by decide) ?_
        refine v_if_eq (tgt := 109) dX4_latestFrom_65 (by decide) (fun b65 => ?_) (fun b65 => ?_)
        · skip
          rw [b2i_0, has_bit (Nat.lt_trans (sc_10 (by omega)) (by decide)) (by omega), sc_bit] at b65
          have hfin : ∀ z, z < sN + 1 → br_ A C nC sN S P i j s → ¬ z = s → br_ A C nC sN S P i j z → ¬ it0_ (la_ (fun i τ x => br_ A C nC sN S P i τ x) (2 * sN) sN g a e m) g m z j := fun z hz y1 => absurd ⟨hs9, y1⟩ b65
          refine v_iinc dX4_latestFrom_109 rfl (by first | with_reducible exact nI_inc _ | exact rfl) (by decide) ?_
          refine v_goto (tgt := 23) dX4_latestFrom_112 (by decide) ?_
          refine v_loc2 (by repeat' (first | with_reducible exact lsub_n | with_reducible refine lsub_c ?_ ?_ | with_reducible refine lk_hit ?_ | with_reducible refine lk_miss (by decide) ?_ ?_ | exact rfl)) (IH3 (i + 1) ⟨by omega, fun i2 hi => (Nat.lt_succ_iff_lt_or_eq.mp hi).elim (hJ2 i2) (fun u => by subst u; exact hfin)⟩ (by omega))
        · skip
          rw [b2i_n0, has_bit (Nat.lt_trans (sc_10 (by omega)) (by decide)) (by omega), sc_bit] at b65
          refine v_iload dX4_latestFrom_68 rfl ?_
          refine v_iload_n dX4_latestFrom_70 rfl rfl ?_
          refine v_icmp_eq (tgt := 103) dX4_latestFrom_71 (by decide) (fun b71 => ?_) (fun b71 => ?_)
          · skip
            rw [nI_eq (by omega) (by omega)] at b71
            have hny : br_ A C nC sN S P i j s → ¬ y = s → br_ A C nC sN S P i j y → ¬ it0_ (la_ (fun i τ x => br_ A C nC sN S P i τ x) (2 * sN) sN g a e m) g m y j := fun _ w9 => absurd b71 w9
            refine v_iinc dX4_latestFrom_103 rfl (by first | with_reducible exact nI_inc _ | exact rfl) (by decide) ?_
            refine v_goto (tgt := 50) dX4_latestFrom_106 (by decide) ?_
            refine v_loc2 (by repeat' (first | with_reducible exact lsub_n | with_reducible refine lsub_c ?_ ?_ | with_reducible refine lk_hit ?_ | with_reducible refine lk_miss (by decide) ?_ ?_ | exact rfl)) (IH4 (y + 1) ⟨by omega, fun z hz => (Nat.lt_succ_iff_lt_or_eq.mp hz).elim (hY2 z) (fun u => by subst u; exact hny)⟩ (by omega))
          · skip
            rw [nI_eq (by omega) (by omega)] at b71
            refine v_iload dX4_latestFrom_74 rfl ?_
            refine v_iload dX4_latestFrom_76 rfl ?_
            refine v_pS mtX4_has q1859 q1860 dX4_latestFrom_78 (c_X4_has _ _) (by decide) ?_
            refine v_if_eq (tgt := 103) dX4_latestFrom_81 (by decide) (fun b81 => ?_) (fun b81 => ?_)
            · skip
              rw [b2i_0, has_bit (Nat.lt_trans (sc_10 (by omega)) (by decide)) (by omega), sc_bit] at b81
              have hny : br_ A C nC sN S P i j s → ¬ y = s → br_ A C nC sN S P i j y → ¬ it0_ (la_ (fun i τ x => br_ A C nC sN S P i τ x) (2 * sN) sN g a e m) g m y j := fun _ _ w9 => absurd ⟨hk4, w9⟩ b81
              refine v_iinc dX4_latestFrom_103 rfl (by first | with_reducible exact nI_inc _ | exact rfl) (by decide) ?_
              refine v_goto (tgt := 50) dX4_latestFrom_106 (by decide) ?_
              refine v_loc2 (by repeat' (first | with_reducible exact lsub_n | with_reducible refine lsub_c ?_ ?_ | with_reducible refine lk_hit ?_ | with_reducible refine lk_miss (by decide) ?_ ?_ | exact rfl)) (IH4 (y + 1) ⟨by omega, fun z hz => (Nat.lt_succ_iff_lt_or_eq.mp hz).elim (hY2 z) (fun u => by subst u; exact hny)⟩ (by omega))
            · skip
              rw [b2i_n0, has_bit (Nat.lt_trans (sc_10 (by omega)) (by decide)) (by omega), sc_bit] at b81
              have hll := la_le (fun i τ x => br_ A C nC sN S P i τ x) (2 * sN) sN g a e m y
              refine v_aload_n dX4_latestFrom_84 rfl rfl ?_
              refine v_iload dX4_latestFrom_85 rfl ?_
              refine v_iload_n dX4_latestFrom_87 rfl rfl ?_
              refine v_iconst (v := 1) dX4_latestFrom_88 (by decide) ?_
              refine v_isub dX4_latestFrom_89 ?_
              rw [nI_pred]
              refine v_iload dX4_latestFrom_90 rfl ?_
              refine v_iload dX4_latestFrom_92 rfl ?_
              refine v_pV mtX4_isInTime q2128 q2130 qs109 rfl (by decide) dX4_latestFrom_94 (c_X4_isInTime (y := y) (j := m) (g := g) (t := j) (l := la_ (fun i τ x => br_ A C nC sN S P i τ x) (2 * sN) sN g a e m y) hm (by omega) (by omega) (by omega) (by omega) (by omega) (hla y hk4)) (mK_obj hm) (by decide) ?_
              refine v_if_eq (tgt := 103) dX4_latestFrom_97 (by decide) (fun b97 => ?_) (fun b97 => ?_)
              · skip
                rw [b2c_0] at b97
                have hny : br_ A C nC sN S P i j s → ¬ y = s → br_ A C nC sN S P i j y → ¬ it0_ (la_ (fun i τ x => br_ A C nC sN S P i τ x) (2 * sN) sN g a e m) g m y j := fun _ _ _ => b97
                refine v_iinc dX4_latestFrom_103 rfl (by first | with_reducible exact nI_inc _ | exact rfl) (by decide) ?_
                refine v_goto (tgt := 50) dX4_latestFrom_106 (by decide) ?_
                refine v_loc2 (by repeat' (first | with_reducible exact lsub_n | with_reducible refine lsub_c ?_ ?_ | with_reducible refine lk_hit ?_ | with_reducible refine lk_miss (by decide) ?_ ?_ | exact rfl)) (IH4 (y + 1) ⟨by omega, fun z hz => (Nat.lt_succ_iff_lt_or_eq.mp hz).elim (hY2 z) (fun u => by subst u; exact hny)⟩ (by omega))
              · skip
                rw [b2c_n0] at b97
                refine v_iload dX4_latestFrom_100 rfl ?_
                exact v_reti dX4_latestFrom_102 rfl (Pu_i (by rw [← hI2, gs_t ⟨by omega, i, hk3, b65.2, y, hk4, b71, b81.2, b97⟩, nI_pred]))

set_option maxHeartbeats 1000000 in
theorem c_X4_choosesHop {G : Gv} {h : AH} {A : Nat → Int32} {C : Nat → Nat → Int32} {sN nC : Nat} {S : Int32} (hv : sv_ok A sN) (hL : LD_ A C nC sN S h) {P m k s g a e f : Nat} (hP : P < 512) (hkm : k + m < 10) (hs9 : s < sN + 1) (hg : g ≤ sN) (he : e < 100) (hN : hp_I h 241 47 = nI (k + 1 + m)) (hla : ∀ z, z < sN + 1 → 0 < m → hp_I h 261 (10 * m + z) = nI (la_ (fun i τ x => br_ A C nC sN S P i τ x) (2 * sN) sN g a e m z) - 1) (hex : ∃ t i z, (f ≤ t ∧ t ≤ e) ∧ i < 2 * sN ∧ z < sN + 1 ∧ oh_ (fun i τ x => br_ A C nC sN S P i τ x) (la_ (fun i τ x => br_ A C nC sN S P i τ x) (2 * sN) sN g a e m) g m s t i z) : Ctr G 5 yX4_choosesHop cX4_choosesHop 12 none [.ref 241, .int (nI P), .int (nI k), .int (nI s), .int (nI g), .int (nI f), .int (nI e)] h 0 0 (fun q h1 => q = none ∧ ∃ p, F3_ (fun t i z => oh_ (fun i τ x => br_ A C nC sN S P i τ x) (la_ (fun i τ x => br_ A C nC sN S P i τ x) (2 * sN) sN g a e m) g m s t i z) (2 * sN) (sN + 1) f e p ∧ h1 = up3_ h k p) := by
  refine ctr_of (own := RX4) (nm := "choosesHop") (by decide) (Nat.le_of_ble_eq_true rfl) ?_
  have hm := hL.1
  have hs := hL.2.1
  have hA := hL.2.2.1
  have h3 := sv_s hv
  obtain ⟨et, ei, ez, ⟨he1, he2⟩, he3, he4, he5⟩ := hex
  refine v_iload dX4_choosesHop_0 rfl ?_
  refine v_istore dX4_choosesHop_2 (by decide) ?_
  refine v_loc2 (by repeat' (first | with_reducible exact lsub_n | with_reducible refine lsub_c ?_ ?_ | with_reducible refine lk_hit ?_ | with_reducible refine lk_miss (by decide) ?_ ?_ | exact rfl)) (v_lp1 (fun (j : Nat) => e + 1 - j) (fun (j : Nat) => (f ≤ j ∧ j ≤ e + 1) ∧ ∀ t, f ≤ t → t < j → ∀ i, i < 2 * sN → ∀ z, z < sN + 1 → ¬ oh_ (fun i τ x => br_ A C nC sN S P i τ x) (la_ (fun i τ x => br_ A C nC sN S P i τ x) (2 * sN) sN g a e m) g m s t i z) (fun (j : Nat) => [(0, .ref 241), (1, .int (nI P)), (2, .int (nI k)), (3, .int (nI s)), (4, .int (nI g)), (5, .int (nI f)), (6, .int (nI e)), (7, .int (nI j))]) (fun _ => []) (fun (j : Nat) => h) ?_ f ⟨⟨Nat.le_refl _, by omega⟩, fun t h1 h2 => by omega⟩)
  intro j hI IH
  obtain ⟨⟨hI1, hI3⟩, hI2⟩ := hI
  refine v_iload dX4_choosesHop_4 rfl ?_
  refine v_iload dX4_choosesHop_6 rfl ?_
  refine v_icmp_gt (tgt := 161) dX4_choosesHop_8 (by decide) (fun b8 => ?_) (fun b8 => ?_)
  · skip
    rw [nI_ltI (by omega) (by omega)] at b8
    exact absurd he5 (hI2 et he1 (by omega) ei he3 ez he4)
  · skip
    rw [nI_ltI (by omega) (by omega)] at b8
    refine v_aload_n dX4_choosesHop_11 rfl rfl ?_
    refine v_iload_n dX4_choosesHop_12 rfl rfl ?_
    refine v_iload dX4_choosesHop_13 rfl ?_
    refine v_pV mtX4_unseen q2112 q2114 qs105 rfl (by decide) dX4_choosesHop_15 (c_X4_unseen (t := j) hv hL hP (by omega)) (mK_obj hm) (by decide) ?_
    refine v_istore dX4_choosesHop_18 (by decide) ?_
    refine v_iconst (v := 0) dX4_choosesHop_20 (by decide) ?_
    refine v_istore dX4_choosesHop_21 (by decide) ?_
    refine v_loc2 (by repeat' (first | with_reducible exact lsub_n | with_reducible refine lsub_c ?_ ?_ | with_reducible refine lk_hit ?_ | with_reducible refine lk_miss (by decide) ?_ ?_ | exact rfl)) (v_lp1 (fun (i : Nat) => 2 * sN - i) (fun (i : Nat) => i ≤ 2 * sN ∧ ∀ i2, i2 < i → ∀ z, z < sN + 1 → ¬ oh_ (fun i τ x => br_ A C nC sN S P i τ x) (la_ (fun i τ x => br_ A C nC sN S P i τ x) (2 * sN) sN g a e m) g m s j i2 z) (fun (i : Nat) => [(0, .ref 241), (1, .int (nI P)), (2, .int (nI k)), (3, .int (nI s)), (4, .int (nI g)), (5, .int (nI f)), (6, .int (nI e)), (7, .int (nI j)), (8, .int (nI (sc_ (fun x => us_ A C nC sN S P x j) (sN + 1)))), (9, .int (nI i))]) (fun _ => []) (fun (i : Nat) => h) ?_ 0 ⟨Nat.zero_le _, fun i hi => absurd hi (Nat.not_lt_zero i)⟩)
    intro i hJ IH3
    obtain ⟨hJ1, hJ2⟩ := hJ
    refine v_iload dX4_choosesHop_23 rfl ?_
    refine v_iconst (v := 2) dX4_choosesHop_25 (by decide) ?_
    refine v_aload_n dX4_choosesHop_26 rfl rfl ?_
    refine v_getI fX4_24 dX4_choosesHop_27 (mK_obj hm) ?_
    rw [hs]
    refine v_imul dX4_choosesHop_30 ?_
    rw [nI_2]
    refine v_icmp_ge (tgt := 155) dX4_choosesHop_31 (by decide) (fun b31 => ?_) (fun b31 => ?_)
    · skip
      rw [nI_leI (by omega) (by omega)] at b31
      have hk3 : 2 * sN = i := by omega
      refine v_iinc dX4_choosesHop_155 rfl (by first | with_reducible exact nI_inc _ | exact rfl) (by decide) ?_
      refine v_goto (tgt := 4) dX4_choosesHop_158 (by decide) ?_
      refine v_loc2 (by repeat' (first | with_reducible exact lsub_n | with_reducible refine lsub_c ?_ ?_ | with_reducible refine lk_hit ?_ | with_reducible refine lk_miss (by decide) ?_ ?_ | exact rfl)) (IH (j + 1) ⟨⟨by omega, by omega⟩, fun t h1 h2 => (Nat.lt_succ_iff_lt_or_eq.mp h2).elim (hI2 t h1) (fun u => by subst u; exact fun i2 hi => hJ2 i2 (by omega))⟩ (by omega))
    · skip
      rw [nI_leI (by omega) (by omega)] at b31
      have hk3 : i < 2 * sN := by omega
      refine v_aload_n dX4_choosesHop_34 rfl rfl ?_
      refine v_iload_n dX4_choosesHop_35 rfl rfl ?_
      refine v_iload dX4_choosesHop_36 rfl ?_
      refine v_iload dX4_choosesHop_38 rfl ?_
      refine v_iload dX4_choosesHop_40 rfl ?_
      refine v_pV mtX4_bridge q2116 q2118 qs106 rfl (by decide) dX4_choosesHop_42 (c_X4_bridge (a := i) (t := j) hv hL hP (by omega) hk3) (mK_obj hm) (by decide) ?_
      refine v_istore dX4_choosesHop_45 (by decide) ?_
      refine v_iconst (v := 0) dX4_choosesHop_47 (by decide) ?_
      refine v_istore dX4_choosesHop_48 (by decide) ?_
      refine v_loc2 (by repeat' (first | with_reducible exact lsub_n | with_reducible refine lsub_c ?_ ?_ | with_reducible refine lk_hit ?_ | with_reducible refine lk_miss (by decide) ?_ ?_ | exact rfl)) (v_lp1 (fun (y : Nat) => sN + 1 - y) (fun (y : Nat) => y ≤ sN + 1 ∧ ∀ z, z < y → ¬ oh_ (fun i τ x => br_ A C nC sN S P i τ x) (la_ (fun i τ x => br_ A C nC sN S P i τ x) (2 * sN) sN g a e m) g m s j i z) (fun (y : Nat) => [(0, .ref 241), (1, .int (nI P)), (2, .int (nI k)), (3, .int (nI s)), (4, .int (nI g)), (5, .int (nI f)), (6, .int (nI e)), (7, .int (nI j)), (8, .int (nI (sc_ (fun x => us_ A C nC sN S P x j) (sN + 1)))), (9, .int (nI i)), (10, .int (nI (sc_ (fun x => br_ A C nC sN S P i j x) (sN + 1)))), (11, .int (nI y))]) (fun _ => []) (fun (y : Nat) => h) ?_ 0 ⟨Nat.zero_le _, fun i hi => absurd hi (Nat.not_lt_zero i)⟩)
      intro y hY IH4
      obtain ⟨hY1, hY2⟩ := hY
      refine v_iload dX4_choosesHop_50 rfl ?_
      refine v_aload_n dX4_choosesHop_52 rfl rfl ?_
      refine v_getI fX4_24 dX4_choosesHop_53 (mK_obj hm) ?_
      rw [hs]
      refine v_icmp_gt (tgt := 149) dX4_choosesHop_56 (by decide) (fun b56 => ?_) (fun b56 => ?_)
      · skip
        rw [nI_ltI (by omega) (by omega)] at b56
        have hk4 : sN + 1 = y := by omega
        have hfin : ∀ z, z < sN + 1 → ¬ oh_ (fun i τ x => br_ A C nC sN S P i τ x) (la_ (fun i τ x => br_ A C nC sN S P i τ x) (2 * sN) sN g a e m) g m s j i z := fun z hz => hY2 z (by omega)
        refine v_iinc dX4_choosesHop_149 rfl (by first | with_reducible exact nI_inc _ | exact rfl) (by decide) ?_
        refine v_goto (tgt := 23) dX4_choosesHop_152 (by decide) ?_
        refine v_loc2 (by repeat' (first | with_reducible exact lsub_n | with_reducible refine lsub_c ?_ ?_ | with_reducible refine lk_hit ?_ | with_reducible refine lk_miss (by decide) ?_ ?_ | exact rfl)) (IH3 (i + 1) ⟨by omega, fun i2 hi => (Nat.lt_succ_iff_lt_or_eq.mp hi).elim (hJ2 i2) (fun u => by subst u; exact hfin)⟩ (by omega))
      · skip
        rw [nI_ltI (by omega) (by omega)] at b56
        have hk4 : y < sN + 1 := by omega
        refine v_iload dX4_choosesHop_59 rfl ?_
        refine v_iload_n dX4_choosesHop_61 rfl rfl ?_
        refine v_pS mtX4_has q1859 q1860 dX4_choosesHop_62 (c_X4_has _ _) (by decide) ?_
        refine v_if_eq (tgt := 149) dX4_choosesHop_65 (by decide) (fun b65 => ?_) (fun b65 => ?_)
        · skip
          rw [b2i_0, has_bit (Nat.lt_trans (sc_10 (by omega)) (by decide)) (by omega), sc_bit] at b65
          have hfin : ∀ z, z < sN + 1 → ¬ oh_ (fun i τ x => br_ A C nC sN S P i τ x) (la_ (fun i τ x => br_ A C nC sN S P i τ x) (2 * sN) sN g a e m) g m s j i z := fun z hz y1 => b65 ⟨hs9, y1.1⟩
          refine v_iinc dX4_choosesHop_149 rfl (by first | with_reducible exact nI_inc _ | exact rfl) (by decide) ?_
          refine v_goto (tgt := 23) dX4_choosesHop_152 (by decide) ?_
          refine v_loc2 (by repeat' (first | with_reducible exact lsub_n | with_reducible refine lsub_c ?_ ?_ | with_reducible refine lk_hit ?_ | with_reducible refine lk_miss (by decide) ?_ ?_ | exact rfl)) (IH3 (i + 1) ⟨by omega, fun i2 hi => (Nat.lt_succ_iff_lt_or_eq.mp hi).elim (hJ2 i2) (fun u => by subst u; exact hfin)⟩ (by omega))
        · skip
          rw [b2i_n0, has_bit (Nat.lt_trans (sc_10 (by omega)) (by decide)) (by omega), sc_bit] at b65
          refine v_iload dX4_choosesHop_68 rfl ?_
          refine v_iload_n dX4_choosesHop_70 rfl rfl ?_
          refine v_icmp_eq (tgt := 143) dX4_choosesHop_71 (by decide) (fun b71 => ?_) (fun b71 => ?_)
          · skip
            rw [nI_eq (by omega) (by omega)] at b71
            have hny : ¬ oh_ (fun i τ x => br_ A C nC sN S P i τ x) (la_ (fun i τ x => br_ A C nC sN S P i τ x) (2 * sN) sN g a e m) g m s j i y := fun w9 => w9.2.1 b71
            refine v_iinc dX4_choosesHop_143 rfl (by first | with_reducible exact nI_inc _ | exact rfl) (by decide) ?_
            refine v_goto (tgt := 50) dX4_choosesHop_146 (by decide) ?_
            refine v_loc2 (by repeat' (first | with_reducible exact lsub_n | with_reducible refine lsub_c ?_ ?_ | with_reducible refine lk_hit ?_ | with_reducible refine lk_miss (by decide) ?_ ?_ | exact rfl)) (IH4 (y + 1) ⟨by omega, fun z hz => (Nat.lt_succ_iff_lt_or_eq.mp hz).elim (hY2 z) (fun u => by subst u; exact hny)⟩ (by omega))
          · skip
            rw [nI_eq (by omega) (by omega)] at b71
            refine v_iload dX4_choosesHop_74 rfl ?_
            refine v_iload dX4_choosesHop_76 rfl ?_
            refine v_pS mtX4_has q1859 q1860 dX4_choosesHop_78 (c_X4_has _ _) (by decide) ?_
            refine v_if_eq (tgt := 143) dX4_choosesHop_81 (by decide) (fun b81 => ?_) (fun b81 => ?_)
            · skip
              rw [b2i_0, has_bit (Nat.lt_trans (sc_10 (by omega)) (by decide)) (by omega), sc_bit] at b81
              have hny : ¬ oh_ (fun i τ x => br_ A C nC sN S P i τ x) (la_ (fun i τ x => br_ A C nC sN S P i τ x) (2 * sN) sN g a e m) g m s j i y := fun w9 => b81 ⟨hk4, w9.2.2.1⟩
              refine v_iinc dX4_choosesHop_143 rfl (by first | with_reducible exact nI_inc _ | exact rfl) (by decide) ?_
              refine v_goto (tgt := 50) dX4_choosesHop_146 (by decide) ?_
              refine v_loc2 (by repeat' (first | with_reducible exact lsub_n | with_reducible refine lsub_c ?_ ?_ | with_reducible refine lk_hit ?_ | with_reducible refine lk_miss (by decide) ?_ ?_ | exact rfl)) (IH4 (y + 1) ⟨by omega, fun z hz => (Nat.lt_succ_iff_lt_or_eq.mp hz).elim (hY2 z) (fun u => by subst u; exact hny)⟩ (by omega))
            · skip
              rw [b2i_n0, has_bit (Nat.lt_trans (sc_10 (by omega)) (by decide)) (by omega), sc_bit] at b81
              have hll := la_le (fun i τ x => br_ A C nC sN S P i τ x) (2 * sN) sN g a e m y
              refine v_aload_n dX4_choosesHop_84 rfl rfl ?_
              refine v_iload dX4_choosesHop_85 rfl ?_
              refine v_aload_n dX4_choosesHop_87 rfl rfl ?_
              refine v_getI fX4_401 dX4_choosesHop_88 (mK_obj hm) ?_
              rw [hN]
              refine v_iload_n dX4_choosesHop_91 rfl rfl ?_
              refine v_isub dX4_choosesHop_92 ?_
              rw [show nI (k + 1 + m) - nI k = nI (m + 1) from by rw [ix_sub rfl rfl (by omega)]; congr 1; omega]
              refine v_iconst (v := 1) dX4_choosesHop_93 (by decide) ?_
              refine v_isub dX4_choosesHop_94 ?_
              rw [nI_pred]
              refine v_iload dX4_choosesHop_95 rfl ?_
              refine v_iload dX4_choosesHop_97 rfl ?_
              refine v_pV mtX4_isInTime q2128 q2130 qs109 rfl (by decide) dX4_choosesHop_99 (c_X4_isInTime (y := y) (j := m) (g := g) (t := j) (l := la_ (fun i τ x => br_ A C nC sN S P i τ x) (2 * sN) sN g a e m y) hm (by omega) (by omega) (by omega) (by omega) (by omega) (hla y hk4)) (mK_obj hm) (by decide) ?_
              refine v_if_ne (tgt := 108) dX4_choosesHop_102 (by decide) (fun b102 => ?_) (fun b102 => ?_)
              · skip
                rw [b2c_n0] at b102
                refine v_aload_n dX4_choosesHop_108 rfl rfl ?_
                refine v_getR fX4_82 dX4_choosesHop_109 (mK_obj hm) (mR_hops hm) ?_ fcA_I
                refine v_iconst (v := 3) dX4_choosesHop_112 (by decide) ?_
                refine v_iload_n dX4_choosesHop_113 rfl rfl ?_
                refine v_imul dX4_choosesHop_114 ?_
                refine v_iload dX4_choosesHop_115 rfl ?_
                refine v_iast dX4_choosesHop_117 (mK_hops hm) (ix_mul (ix_lit _) rfl) (by first | assumption | omega) ?_
                refine v_aload_n dX4_choosesHop_118 rfl rfl ?_
                refine v_getR fX4_82 dX4_choosesHop_119 (mK_obj hm) (mR_hops hm) ?_ fcA_I
                refine v_iconst (v := 3) dX4_choosesHop_122 (by decide) ?_
                refine v_iload_n dX4_choosesHop_123 rfl rfl ?_
                refine v_imul dX4_choosesHop_124 ?_
                refine v_iconst (v := 1) dX4_choosesHop_125 (by decide) ?_
                refine v_iadd dX4_choosesHop_126 ?_
                refine v_iload dX4_choosesHop_127 rfl ?_
                refine v_iast dX4_choosesHop_129 (mK_hops hm) (ix_add (ix_mul (ix_lit _) rfl) (ix_lit _)) (by first | assumption | omega) ?_
                refine v_aload_n dX4_choosesHop_130 rfl rfl ?_
                refine v_getR fX4_82 dX4_choosesHop_131 (mK_obj hm) (mR_hops hm) ?_ fcA_I
                refine v_iconst (v := 3) dX4_choosesHop_134 (by decide) ?_
                refine v_iload_n dX4_choosesHop_135 rfl rfl ?_
                refine v_imul dX4_choosesHop_136 ?_
                refine v_iconst (v := 2) dX4_choosesHop_137 (by decide) ?_
                refine v_iadd dX4_choosesHop_138 ?_
                refine v_iload dX4_choosesHop_139 rfl ?_
                refine v_iast dX4_choosesHop_141 (mK_hops hm) (ix_add (ix_mul (ix_lit _) rfl) (ix_lit _)) (by first | assumption | omega) ?_
                exact v_retv dX4_choosesHop_142 trivial ⟨rfl, (j, i, y), ⟨⟨hI1, by omega⟩, hk3, hk4, ⟨b65.2, b71, b81.2, b102⟩, hI2, hJ2, hY2⟩, rfl⟩
              · skip
                rw [b2c_0] at b102
                have hny : ¬ oh_ (fun i τ x => br_ A C nC sN S P i τ x) (la_ (fun i τ x => br_ A C nC sN S P i τ x) (2 * sN) sN g a e m) g m s j i y := fun w9 => b102 w9.2.2.2
                refine v_goto (tgt := 143) dX4_choosesHop_105 (by decide) ?_
                refine v_iinc dX4_choosesHop_143 rfl (by first | with_reducible exact nI_inc _ | exact rfl) (by decide) ?_
                refine v_goto (tgt := 50) dX4_choosesHop_146 (by decide) ?_
                refine v_loc2 (by repeat' (first | with_reducible exact lsub_n | with_reducible refine lsub_c ?_ ?_ | with_reducible refine lk_hit ?_ | with_reducible refine lk_miss (by decide) ?_ ?_ | exact rfl)) (IH4 (y + 1) ⟨by omega, fun z hz => (Nat.lt_succ_iff_lt_or_eq.mp hz).elim (hY2 z) (fun u => by subst u; exact hny)⟩ (by omega))

