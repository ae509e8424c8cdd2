set_option maxRecDepth 100000
theorem bm32 {x : Int} (h1 : -(2 ^ 31) ≤ x) (h2 : x < 2 ^ 31) : x.bmod (2 ^ 32) = x := by
  rw [Int.bmod_def]
  omega
theorem nI_dn {k t n : Nat} (hk : k < 1000) (ht : t < 1000) (hn : n < 1000) : nI k - 1 < nI t - nI n ↔ k + n < t + 1 := by
  rw [Int32.lt_iff_toInt_lt, Int32.toInt_sub, Int32.toInt_sub, nI_toInt (by omega), nI_toInt (by omega), nI_toInt (by omega), show (1 : Int32).toInt = 1 from rfl, bm32 (by omega) (by omega), bm32 (by omega) (by omega)]
  omega
theorem nI_m1s (j : Nat) : nI j + Int32.ofInt (-1) = nI j - 1 := by
  rw [show Int32.ofInt (-1) = -1 from by decide]
  exact (Int32.sub_eq_add_neg _ _).symm
/-- the step j of a way: kind, side, many -/
def cn_ (A : Nat → Int32) (C : Nat → Nat → Int32) (nC sN : Nat) (S c : Int32) (m sw p x0 kd sd mn t s e : Nat) : Prop :=
  kd = 6 ∨ (kd = 7 ∧ wr_ A C nC sN S m x0 (2 * p + sd) mn s) ∨ (t < 100 ∧ ((kd = 0 ∧ ∀ i, t ≤ i → (i ≤ e ∨ i = t) → fn_ A C nC sN S sw (2 * p + sd) i) ∨ (kd = 3 ∧ li_ A C S t nC ≤ nI mn) ∨
    (kd = 4 ∧ ∀ q, q < sN → ¬ m.testBit q = true → ¬ ey_ A C nC sN S c q t = nI p) ∨
    (kd = 5 ∧ (∃ q, q < sN ∧ hds_ A q (2 * p + (1 - sd)) t) ∧ ∀ q, q < sN → ¬ m.testBit q = true → ¬ ss_ A C nC sN S c q p t)))
/-- the call and the swapped sides behind the step -/
def cc_ (c : Nat) (kd mn : Nat) : Nat := if kd = 6 then max c mn else c
def cs_ (sw : Nat) (kd sd : Nat) : Nat := if kd = 5 then sw ||| 2 ^ sd else sw
theorem xor1 : ∀ a, a < 18 → nI a ^^^ 1 = nI (2 * (a / 2) + (1 - a % 2)) := by decide +kernel
theorem and_cl2 {a b : Nat} (ha : a < 512) : nI a &&& (nI b ^^^ -1) = nI (a &&& (511 ^^^ b)) := and_cm ha
theorem away_eq {A : Nat → Int32} {C : Nat → Nat → Int32} {nC sN p t m : Nat} {S c : Int32} (h9 : sN ≤ 9) (hp : p < sN) (hmp : m.testBit p = true) : ((sb_ (fun q => eyes_ A C nC S q t = nI p) sN &&& (511 ^^^ sc_ (fun q => ¬ q = p ∧ ld_ A C nC S c q t) sN)) &&& (511 ^^^ m)) = sc_ (fun q => ¬ m.testBit q = true ∧ ey_ A C nC sN S c q t = nI p) sN := by
  refine Nat.eq_of_testBit_eq fun k => ?_
  rw [Bool.eq_iff_iff, Nat.testBit_and, Bool.and_eq_true, Nat.testBit_and, Bool.and_eq_true, sb_bit, sc_bit]
  by_cases hk : k < sN
  · rw [c511' (by omega), c511' (by omega), sc_bit]
    unfold ey_
    by_cases hl : ld_ A C nC S c k t
    · rw [cf_t hl]
      have e : nI sN = nI p ↔ False := ⟨fun z => absurd ((nI_eq (by omega) (by omega)).mp z) (by omega), fun z => z.elim⟩
      rw [e]
      grind
    · rw [cf_f hl]
      grind
  · grind
/-- a step of a way, well made -/
def stp_ok (h : AH) (j kd sd mn : Nat) : Prop := (kd < 8 ∧ hp_I h 255 j = nI kd) ∧ (sd < 2 ∧ hp_I h 256 j = nI sd) ∧ (mn < 21 ∧ hp_I h 257 j = nI mn)
theorem c_X4_wasReady {G : Gv} {h : AH} {A : Nat → Int32} {C : Nat → Nat → Int32} {sN nC : Nat} {S : Int32} (hv : sv_ok A sN) (hL : LD_ A C nC sN S h) {x0 m a n t : Nat} (hw : hp_I h 241 37 = nI m ^^^ -1) (hx : x0 ≤ sN) (hX : hp_I h 241 38 = nI x0) (ha : a < 2 * sN) (hn : n < 21) (ht : t < 100) : Ctr G 1 yX4_wasReady cX4_wasReady 5 (some .boolean) [.ref 241, .int (nI a), .int (nI n), .int (nI t)] h 0 0 (Pu h (.int (b2c (wr_ A C nC sN S m x0 a n t)))) := by
  refine ctr_of (own := RX4) (nm := "wasReady") (by decide) (Nat.le_of_ble_eq_true rfl) ?_
  have hm := hL.1
  have hs := hL.2.1
  have hA := hL.2.2.1
  have h3 := sv_s hv
  refine v_iload_n dX4_wasReady_0 rfl rfl ?_
  refine v_iconst (v := 1) dX4_wasReady_1 (by decide) ?_
  refine v_isub dX4_wasReady_2 ?_
  refine v_istore dX4_wasReady_3 (by decide) ?_
  refine v_loc2 (by repeat' (first | with_reducible exact lsub_n | with_reducible refine lsub_c ?_ ?_ | with_reducible refine lk_hit ?_ | with_reducible refine lk_miss (by decide) ?_ ?_ | exact rfl)) (v_lp1 (fun (k : Nat) => k) (fun (k : Nat) => k ≤ t ∧ ∀ i, k ≤ i → i < t → (∀ q, q < sN → ¬ m.testBit q = true → ¬ see_ A C nC S q (nI x0)  i) ∧ ¬ free_ A C nC sN S a i) (fun (k : Nat) => [(0, .ref 241), (1, .int (nI a)), (2, .int (nI n)), (3, .int (nI t)), (4, .int (nI k - 1))]) (fun _ => []) (fun (k : Nat) => h) ?_ t ⟨Nat.le_refl _, fun i h1 h2 => by omega⟩)
  intro k hI IH
  obtain ⟨hI1, hI2⟩ := hI
  refine v_iload dX4_wasReady_5 rfl ?_
  refine v_iload_n dX4_wasReady_7 rfl rfl ?_
  refine v_iload_n dX4_wasReady_8 rfl rfl ?_
  refine v_isub dX4_wasReady_9 ?_
  refine v_icmp_lt (tgt := 66) dX4_wasReady_10 (by decide) (fun b10 => ?_) (fun b10 => ?_)
  · skip
    rw [nI_dn (by omega) (by omega) (by omega)] at b10
    have hq : ¬ wr_ A C nC sN S m x0 a n t := fun ⟨i, h1, h2, h4, h5⟩ => (hI2 i (by omega) h1).2 h4
    refine v_iconst (v := 0) dX4_wasReady_66 (by decide) ?_
    refine v_reti dX4_wasReady_67 (by first | rfl | exact rt_c | exact rt_z | exact Or.inr rfl) (Pu_i ?_)
    first | exact (b2c_t hq).symm | exact (b2c_f hq).symm
  · skip
    rw [nI_dn (by omega) (by omega) (by omega)] at b10
    refine v_iload dX4_wasReady_13 rfl ?_
    refine v_if_lt (tgt := 66) dX4_wasReady_15 (by decide) (fun b15 => ?_) (fun b15 => ?_)
    · skip
      have hk0 : k = 0 := dl_t b15 (by omega)
      have hq : ¬ wr_ A C nC sN S m x0 a n t := fun ⟨i, h1, h2, h4, h5⟩ => (hI2 i (by omega) h1).2 h4
      refine v_iconst (v := 0) dX4_wasReady_66 (by decide) ?_
      refine v_reti dX4_wasReady_67 (by first | rfl | exact rt_c | exact rt_z | exact Or.inr rfl) (Pu_i ?_)
      first | exact (b2c_t hq).symm | exact (b2c_f hq).symm
    · skip
      obtain ⟨j, rfl⟩ : ∃ j, k = j + 1 := ⟨k - 1, by rcases k with _ | k; exact absurd (by decide) b15; rfl⟩
      rw [nI_pred]
      refine v_aload_n dX4_wasReady_18 rfl rfl ?_
      refine v_getR fX4_33 dX4_wasReady_19 (mK_obj hm) (mR_watched hm) ?_ fcA_I
      refine v_bipush (v := 100) dX4_wasReady_22 (by decide) ?_
      refine v_aload_n dX4_wasReady_24 rfl rfl ?_
      refine v_getI fX4_327 dX4_wasReady_25 (mK_obj hm) ?_
      rw [hX]
      refine v_imul dX4_wasReady_28 ?_
      refine v_iload dX4_wasReady_29 rfl ?_
      refine v_iadd dX4_wasReady_31 ?_
      refine v_iald dX4_wasReady_32 (mK_watched hm) (ix_add (ix_mul (ix_lit _) rfl) rfl) (by first | assumption | omega) ?_
      rw [LD_wat hL hx (by omega)]
      refine v_aload_n dX4_wasReady_33 rfl rfl ?_
      refine v_getI fX4_318 dX4_wasReady_34 (mK_obj hm) ?_
      rw [hw]
      refine v_iand dX4_wasReady_37 ?_
      rw [and_cm (wa_lt h3.2)]
      refine v_if_eq (tgt := 43) dX4_wasReady_38 (by decide) (fun b38 => ?_) (fun b38 => ?_)
      · skip
        rw [show (0 : Int32) = nI 0 from rfl, nI_eq (Nat.lt_of_le_of_lt Nat.and_le_left (Nat.lt_trans (wa_lt h3.2) (by decide))) (by decide), and0 (wa_lt h3.2)] at b38
        have hns : ∀ q, q < sN → ¬ m.testBit q = true → ¬ see_ A C nC S q (nI x0)  j := fun q hq hm hs => hm (b38 q (wa_bit.mpr ⟨hq, hs⟩))
        refine v_aload_n dX4_wasReady_43 rfl rfl ?_
        refine v_getR fX4_45 dX4_wasReady_44 (mK_obj hm) (mR_isFree hm) ?_ fcA_Z
        refine v_bipush (v := 100) dX4_wasReady_47 (by decide) ?_
        refine v_iload_n dX4_wasReady_49 rfl rfl ?_
        refine v_imul dX4_wasReady_50 ?_
        refine v_iload dX4_wasReady_51 rfl ?_
        refine v_iadd dX4_wasReady_53 ?_
        refine v_zald dX4_wasReady_54 (mK_isFree hm) (ix_add (ix_mul (ix_lit _) rfl) rfl) (by first | assumption | omega) ?_
        rw [LD_free hL ha (by omega)]
        refine v_if_eq (tgt := 60) dX4_wasReady_55 (by decide) (fun b55 => ?_) (fun b55 => ?_)
        · skip
          rw [b2c_0] at b55
          refine v_iinc dX4_wasReady_60 rfl (by first | with_reducible exact nI_inc _ | exact rfl) (by decide) ?_
          rw [nI_m1s]
          refine v_goto (tgt := 5) dX4_wasReady_63 (by decide) ?_
          refine v_loc2 (by repeat' (first | with_reducible exact lsub_n | with_reducible refine lsub_c ?_ ?_ | with_reducible refine lk_hit ?_ | with_reducible refine lk_miss (by decide) ?_ ?_ | exact rfl)) (IH j ⟨by omega, fun i h1 h2 => ?_⟩ (by omega))
          rcases Nat.lt_or_ge j i with z | z
          · exact hI2 i (by omega) h2
          · rw [show i = j by omega]; exact ⟨hns, b55⟩
        · skip
          rw [b2c_n0] at b55
          have hq : wr_ A C nC sN S m x0 a n t := ⟨j, by omega, by omega, b55, fun i h1 h2 => by
           rcases Nat.lt_or_ge j i with z | z
           · exact (hI2 i (by omega) h2).1
           · rw [show i = j by omega]; exact hns⟩
          refine v_iconst (v := 1) dX4_wasReady_58 (by decide) ?_
          refine v_reti dX4_wasReady_59 (by first | rfl | exact rt_c | exact rt_z | exact Or.inr rfl) (Pu_i ?_)
          first | exact (b2c_t hq).symm | exact (b2c_f hq).symm
      · skip
        rw [show (0 : Int32) = nI 0 from rfl, nI_eq (Nat.lt_of_le_of_lt Nat.and_le_left (Nat.lt_trans (wa_lt h3.2) (by decide))) (by decide), and0 (wa_lt h3.2)] at b38
        have hq : ¬ wr_ A C nC sN S m x0 a n t := fun ⟨i, h1, h2, h4, h5⟩ => by
         rcases Nat.lt_or_ge j i with z | z
         · exact (hI2 i (by omega) h1).2 h4
         · exact b38 (fun q hq => Classical.byContradiction fun hm => h5 j z (by omega) q (wa_bit.mp hq).1 hm (wa_bit.mp hq).2)
        refine v_iconst (v := 0) dX4_wasReady_41 (by decide) ?_
        refine v_reti dX4_wasReady_42 (by first | rfl | exact rt_c | exact rt_z | exact Or.inr rfl) (Pu_i ?_)
        first | exact (b2c_t hq).symm | exact (b2c_f hq).symm

