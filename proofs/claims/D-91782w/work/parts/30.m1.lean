set_option maxRecDepth 100000
theorem lt64 {x y : Int32} : x.toInt64 < y.toInt64 ↔ x < y := by rw [Int64.lt_iff_toInt_lt, Int32.lt_iff_toInt_lt, Int32.toInt_toInt64, Int32.toInt_toInt64]
theorem le64 {x y : Int32} : x.toInt64 ≤ y.toInt64 ↔ x ≤ y := by rw [Int64.le_iff_toInt_le, Int32.le_iff_toInt_le, Int32.toInt_toInt64, Int32.toInt_toInt64]
theorem ix_lit (n : Nat) : (OfNat.ofNat n : Int32) = nI (OfNat.ofNat n : Nat) := rfl
theorem nI_eqL {a n : Nat} (ha : a < 2 ^ 31) (hn : (OfNat.ofNat n : Nat) < 2 ^ 31) : nI a = (OfNat.ofNat n : Int32) ↔ a = (OfNat.ofNat n : Nat) := nI_eq ha hn
theorem nI_Leq {a n : Nat} (ha : a < 2 ^ 31) (hn : (OfNat.ofNat n : Nat) < 2 ^ 31) : (OfNat.ofNat n : Int32) = nI a ↔ (OfNat.ofNat n : Nat) = a := nI_eq hn ha
theorem nI_ltL {a n : Nat} (ha : a < 2 ^ 31) (hn : (OfNat.ofNat n : Nat) < 2 ^ 31) : nI a < (OfNat.ofNat n : Int32) ↔ a < (OfNat.ofNat n : Nat) := nI_ltI ha hn
theorem nI_Llt {a n : Nat} (ha : a < 2 ^ 31) (hn : (OfNat.ofNat n : Nat) < 2 ^ 31) : (OfNat.ofNat n : Int32) < nI a ↔ (OfNat.ofNat n : Nat) < a := nI_ltI hn ha
theorem nI_leL {a n : Nat} (ha : a < 2 ^ 31) (hn : (OfNat.ofNat n : Nat) < 2 ^ 31) : nI a ≤ (OfNat.ofNat n : Int32) ↔ a ≤ (OfNat.ofNat n : Nat) := nI_leI ha hn
theorem nI_Lle {a n : Nat} (ha : a < 2 ^ 31) (hn : (OfNat.ofNat n : Nat) < 2 ^ 31) : (OfNat.ofNat n : Int32) ≤ nI a ↔ (OfNat.ofNat n : Nat) ≤ a := nI_leI hn ha
theorem nI_ne1 {a : Nat} (ha : a < 2 ^ 31) : ¬ nI a = -1 := fun z => by
  have := nI_pos ha
  rw [z] at this
  exact this (by decide)
theorem nI_m1 {a : Nat} (ha : a < 2 ^ 31) : nI a = -1 ↔ False := iff_false_intro (nI_ne1 ha)
theorem m1_nI {a : Nat} (ha : a < 2 ^ 31) : -1 = nI a ↔ False := iff_false_intro (fun z => nI_ne1 ha z.symm)
def lsub (l' l : List (Nat × Value)) : Prop := match l' with
  | [] => True
  | q :: t => lk_ l q.1 = some q.2 ∧ lsub t l
theorem lsub_mem : ∀ {l' l : List (Nat × Value)}, lsub l' l → ∀ q ∈ l', lk_ l q.1 = some q.2
  | [], _, _, _, h => by cases h
  | x :: t, l, h, q, hq => by
    rcases List.mem_cons.mp hq with e | e
    · rw [e]; exact h.1
    · exact lsub_mem h.2 q e
theorem v_loc2 {G : Gv} {d : Nat} {own nm : String} {cc : ByteArray} {nL : Nat} {ret : Option FieldType} {mc ms : Nat} {Q : Option Value → AH → Prop} {pc : Nat} {l l' : List (Nat × Value)} {st : List Value} {h : AH} (hs : lsub l' l) (k : Vv G d own nm cc nL ret mc ms Q pc l' st h) : Vv G d own nm cc nL ret mc ms Q pc l st h := v_loc (lsub_mem hs) k
theorem c_X4_within {G : Gv} {h : AH} (x lo hi : Int32) : Ctr G 1 yX4_within cX4_within 6 (some .boolean) [.long x.toInt64, .long lo.toInt64, .long hi.toInt64] h 0 0 (Pu h (.int (b2i (lo ≤ x ∧ x ≤ hi)))) := by
  refine ctr_of (own := RX4) (nm := "within") (by decide) (Nat.le_of_ble_eq_true rfl) ?_
  refine v_lload_n dX4_within_0 rfl rfl ?_
  refine v_lload_n dX4_within_1 rfl rfl ?_
  refine v_lcmp dX4_within_2 ?_
  refine v_if_lt (tgt := 17) dX4_within_3 (by decide) (fun b3 => ?_) (fun b3 => ?_)
  · skip
    refine v_iconst (v := 0) dX4_within_17 (by decide) ?_
    exact v_reti dX4_within_18 (by first | rfl | exact rt_z) (Pu_i (by simp only [lg_cmp_lt, lg_cmp_gt, lt64] at *; first | exact (b2i_t (by grind)).symm | exact (b2i_f (by grind)).symm))
  · skip
    refine v_lload_n dX4_within_6 rfl rfl ?_
    refine v_lload dX4_within_7 rfl ?_
    refine v_lcmp dX4_within_9 ?_
    refine v_if_gt (tgt := 17) dX4_within_10 (by decide) (fun b10 => ?_) (fun b10 => ?_)
    · skip
      refine v_iconst (v := 0) dX4_within_17 (by decide) ?_
      exact v_reti dX4_within_18 (by first | rfl | exact rt_z) (Pu_i (by simp only [lg_cmp_lt, lg_cmp_gt, lt64] at *; first | exact (b2i_t (by grind)).symm | exact (b2i_f (by grind)).symm))
    · skip
      refine v_iconst (v := 1) dX4_within_13 (by decide) ?_
      refine v_goto (tgt := 18) dX4_within_14 (by decide) ?_
      exact v_reti dX4_within_18 (by first | rfl | exact rt_z) (Pu_i (by simp only [lg_cmp_lt, lg_cmp_gt, lt64] at *; first | exact (b2i_t (by grind)).symm | exact (b2i_f (by grind)).symm))

theorem c_X4_has {G : Gv} {h : AH} (x k : Int32) : Ctr G 1 yX4_has cX4_has 2 (some .boolean) [.int x, .int k] h 0 0 (Pu h (.int (b2i ((x >>> (k &&& 31)) &&& 1 = 1)))) := by
  refine ctr_of (own := RX4) (nm := "has") (by decide) (Nat.le_of_ble_eq_true rfl) ?_
  refine v_iload_n dX4_has_0 rfl rfl ?_
  refine v_iload_n dX4_has_1 rfl rfl ?_
  refine v_ishr dX4_has_2 ?_
  refine v_iconst (v := 1) dX4_has_3 (by decide) ?_
  refine v_iand dX4_has_4 ?_
  refine v_iconst (v := 1) dX4_has_5 (by decide) ?_
  refine v_icmp_ne (tgt := 13) dX4_has_6 (by decide) (fun b6 => ?_) (fun b6 => ?_)
  · skip
    refine v_iconst (v := 0) dX4_has_13 (by decide) ?_
    exact v_reti dX4_has_14 (by first | rfl | exact rt_z) (Pu_i (by first | rfl | exact (b2i_t (by first | assumption | omega | grind)).symm | exact (b2i_f (by first | assumption | omega | grind)).symm))
  · skip
    refine v_iconst (v := 1) dX4_has_9 (by decide) ?_
    refine v_goto (tgt := 14) dX4_has_10 (by decide) ?_
    exact v_reti dX4_has_14 (by first | rfl | exact rt_z) (Pu_i (by first | rfl | exact (b2i_t (by first | assumption | omega | grind)).symm | exact (b2i_f (by first | assumption | omega | grind)).symm))

theorem c_X4_isPerson {G : Gv} {h : AH} (hm : MI h) (p : Int32) : Ctr G 1 yX4_isPerson cX4_isPerson 2 (some .boolean) [.ref 241, .int p] h 0 0 (Pu h (.int (b2i (0 ≤ p ∧ p < hp_I h 241 4)))) := by
  refine ctr_of (own := RX4) (nm := "isPerson") (by decide) (Nat.le_of_ble_eq_true rfl) ?_
  refine v_iload_n dX4_isPerson_0 rfl rfl ?_
  refine v_if_lt (tgt := 16) dX4_isPerson_1 (by decide) (fun b1 => ?_) (fun b1 => ?_)
  · skip
    refine v_iconst (v := 0) dX4_isPerson_16 (by decide) ?_
    exact v_reti dX4_isPerson_17 (by first | rfl | exact rt_z) (Pu_i (by first | rfl | exact (b2i_t (by first | assumption | omega | grind)).symm | exact (b2i_f (by first | assumption | omega | grind)).symm))
  · skip
    refine v_iload_n dX4_isPerson_4 rfl rfl ?_
    refine v_aload_n dX4_isPerson_5 rfl rfl ?_
    refine v_getI fX4_24 dX4_isPerson_6 (mK_obj hm) ?_
    refine v_icmp_ge (tgt := 16) dX4_isPerson_9 (by decide) (fun b9 => ?_) (fun b9 => ?_)
    · skip
      refine v_iconst (v := 0) dX4_isPerson_16 (by decide) ?_
      exact v_reti dX4_isPerson_17 (by first | rfl | exact rt_z) (Pu_i (by first | rfl | exact (b2i_t (by first | assumption | omega | grind)).symm | exact (b2i_f (by first | assumption | omega | grind)).symm))
    · skip
      refine v_iconst (v := 1) dX4_isPerson_12 (by decide) ?_
      refine v_goto (tgt := 17) dX4_isPerson_13 (by decide) ?_
      exact v_reti dX4_isPerson_17 (by first | rfl | exact rt_z) (Pu_i (by first | rfl | exact (b2i_t (by first | assumption | omega | grind)).symm | exact (b2i_f (by first | assumption | omega | grind)).symm))

theorem c_X4_isHand {G : Gv} {h : AH} (hm : MI h) (p : Int32) : Ctr G 1 yX4_isHand cX4_isHand 2 (some .boolean) [.ref 241, .int p] h 0 0 (Pu h (.int (b2i (0 ≤ p ∧ p < 2 * hp_I h 241 4)))) := by
  refine ctr_of (own := RX4) (nm := "isHand") (by decide) (Nat.le_of_ble_eq_true rfl) ?_
  refine v_iload_n dX4_isHand_0 rfl rfl ?_
  refine v_if_lt (tgt := 18) dX4_isHand_1 (by decide) (fun b1 => ?_) (fun b1 => ?_)
  · skip
    refine v_iconst (v := 0) dX4_isHand_18 (by decide) ?_
    exact v_reti dX4_isHand_19 (by first | rfl | exact rt_z) (Pu_i (by first | rfl | exact (b2i_t (by first | assumption | omega | grind)).symm | exact (b2i_f (by first | assumption | omega | grind)).symm))
  · skip
    refine v_iload_n dX4_isHand_4 rfl rfl ?_
    refine v_iconst (v := 2) dX4_isHand_5 (by decide) ?_
    refine v_aload_n dX4_isHand_6 rfl rfl ?_
    refine v_getI fX4_24 dX4_isHand_7 (mK_obj hm) ?_
    refine v_imul dX4_isHand_10 ?_
    refine v_icmp_ge (tgt := 18) dX4_isHand_11 (by decide) (fun b11 => ?_) (fun b11 => ?_)
    · skip
      refine v_iconst (v := 0) dX4_isHand_18 (by decide) ?_
      exact v_reti dX4_isHand_19 (by first | rfl | exact rt_z) (Pu_i (by first | rfl | exact (b2i_t (by first | assumption | omega | grind)).symm | exact (b2i_f (by first | assumption | omega | grind)).symm))
    · skip
      refine v_iconst (v := 1) dX4_isHand_14 (by decide) ?_
      refine v_goto (tgt := 19) dX4_isHand_15 (by decide) ?_
      exact v_reti dX4_isHand_19 (by first | rfl | exact rt_z) (Pu_i (by first | rfl | exact (b2i_t (by first | assumption | omega | grind)).symm | exact (b2i_f (by first | assumption | omega | grind)).symm))

theorem c_X4_isSpot {G : Gv} {h : AH} (hm : MI h) (p : Int32) : Ctr G 1 yX4_isSpot cX4_isSpot 2 (some .boolean) [.ref 241, .int p] h 0 0 (Pu h (.int (b2i (0 ≤ p ∧ p ≤ hp_I h 241 4)))) := by
  refine ctr_of (own := RX4) (nm := "isSpot") (by decide) (Nat.le_of_ble_eq_true rfl) ?_
  refine v_iload_n dX4_isSpot_0 rfl rfl ?_
  refine v_if_lt (tgt := 16) dX4_isSpot_1 (by decide) (fun b1 => ?_) (fun b1 => ?_)
  · skip
    refine v_iconst (v := 0) dX4_isSpot_16 (by decide) ?_
    exact v_reti dX4_isSpot_17 (by first | rfl | exact rt_z) (Pu_i (by first | rfl | exact (b2i_t (by first | assumption | omega | grind)).symm | exact (b2i_f (by first | assumption | omega | grind)).symm))
  · skip
    refine v_iload_n dX4_isSpot_4 rfl rfl ?_
    refine v_aload_n dX4_isSpot_5 rfl rfl ?_
    refine v_getI fX4_24 dX4_isSpot_6 (mK_obj hm) ?_
    refine v_icmp_gt (tgt := 16) dX4_isSpot_9 (by decide) (fun b9 => ?_) (fun b9 => ?_)
    · skip
      refine v_iconst (v := 0) dX4_isSpot_16 (by decide) ?_
      exact v_reti dX4_isSpot_17 (by first | rfl | exact rt_z) (Pu_i (by first | rfl | exact (b2i_t (by first | assumption | omega | grind)).symm | exact (b2i_f (by first | assumption | omega | grind)).symm))
    · skip
      refine v_iconst (v := 1) dX4_isSpot_12 (by decide) ?_
      refine v_goto (tgt := 17) dX4_isSpot_13 (by decide) ?_
      exact v_reti dX4_isSpot_17 (by first | rfl | exact rt_z) (Pu_i (by first | rfl | exact (b2i_t (by first | assumption | omega | grind)).symm | exact (b2i_f (by first | assumption | omega | grind)).symm))

theorem c_X4_isSecond {G : Gv} {h : AH} (p : Int32) : Ctr G 1 yX4_isSecond cX4_isSecond 1 (some .boolean) [.int p] h 0 0 (Pu h (.int (b2i (0 ≤ p ∧ p ≤ 99)))) := by
  refine ctr_of (own := RX4) (nm := "isSecond") (by decide) (Nat.le_of_ble_eq_true rfl) ?_
  refine v_iload_n dX4_isSecond_0 rfl rfl ?_
  refine v_if_lt (tgt := 14) dX4_isSecond_1 (by decide) (fun b1 => ?_) (fun b1 => ?_)
  · skip
    refine v_iconst (v := 0) dX4_isSecond_14 (by decide) ?_
    exact v_reti dX4_isSecond_15 (by first | rfl | exact rt_z) (Pu_i (by first | rfl | exact (b2i_t (by first | assumption | omega | grind)).symm | exact (b2i_f (by first | assumption | omega | grind)).symm))
  · skip
    refine v_iload_n dX4_isSecond_4 rfl rfl ?_
    refine v_bipush (v := 99) dX4_isSecond_5 (by decide) ?_
    refine v_icmp_gt (tgt := 14) dX4_isSecond_7 (by decide) (fun b7 => ?_) (fun b7 => ?_)
    · skip
      refine v_iconst (v := 0) dX4_isSecond_14 (by decide) ?_
      exact v_reti dX4_isSecond_15 (by first | rfl | exact rt_z) (Pu_i (by first | rfl | exact (b2i_t (by first | assumption | omega | grind)).symm | exact (b2i_f (by first | assumption | omega | grind)).symm))
    · skip
      refine v_iconst (v := 1) dX4_isSecond_10 (by decide) ?_
      refine v_goto (tgt := 15) dX4_isSecond_11 (by decide) ?_
      exact v_reti dX4_isSecond_15 (by first | rfl | exact rt_z) (Pu_i (by first | rfl | exact (b2i_t (by first | assumption | omega | grind)).symm | exact (b2i_f (by first | assumption | omega | grind)).symm))

theorem c_X4_areSeconds {G : Gv} {h : AH} (a b : Int32) : Ctr G 2 yX4_areSeconds cX4_areSeconds 2 (some .boolean) [.int a, .int b] h 0 0 (Pu h (.int (b2i (0 ≤ a ∧ a ≤ b ∧ b ≤ 99)))) := by
  refine ctr_of (own := RX4) (nm := "areSeconds") (by decide) (Nat.le_of_ble_eq_true rfl) ?_
  refine v_iload_n dX4_areSeconds_0 rfl rfl ?_
  refine v_pS mtX4_isSecond q1812 q1813 dX4_areSeconds_1 (c_X4_isSecond _) (by decide) ?_
  refine v_if_eq (tgt := 23) dX4_areSeconds_4 (by decide) (fun b4 => ?_) (fun b4 => ?_)
  · skip
    refine v_iconst (v := 0) dX4_areSeconds_23 (by decide) ?_
    exact v_reti dX4_areSeconds_24 (by first | rfl | exact rt_z) (Pu_i (by simp only [b2i_0, b2i_n0] at *; first | exact (b2i_t (by grind)).symm | exact (b2i_f (by grind)).symm))
  · skip
    refine v_iload_n dX4_areSeconds_7 rfl rfl ?_
    refine v_pS mtX4_isSecond q1812 q1813 dX4_areSeconds_8 (c_X4_isSecond _) (by decide) ?_
    refine v_if_eq (tgt := 23) dX4_areSeconds_11 (by decide) (fun b11 => ?_) (fun b11 => ?_)
    · skip
      refine v_iconst (v := 0) dX4_areSeconds_23 (by decide) ?_
      exact v_reti dX4_areSeconds_24 (by first | rfl | exact rt_z) (Pu_i (by simp only [b2i_0, b2i_n0] at *; first | exact (b2i_t (by grind)).symm | exact (b2i_f (by grind)).symm))
    · skip
      refine v_iload_n dX4_areSeconds_14 rfl rfl ?_
      refine v_iload_n dX4_areSeconds_15 rfl rfl ?_
      refine v_icmp_gt (tgt := 23) dX4_areSeconds_16 (by decide) (fun b16 => ?_) (fun b16 => ?_)
      · skip
        refine v_iconst (v := 0) dX4_areSeconds_23 (by decide) ?_
        exact v_reti dX4_areSeconds_24 (by first | rfl | exact rt_z) (Pu_i (by simp only [b2i_0, b2i_n0] at *; first | exact (b2i_t (by grind)).symm | exact (b2i_f (by grind)).symm))
      · skip
        refine v_iconst (v := 1) dX4_areSeconds_19 (by decide) ?_
        refine v_goto (tgt := 24) dX4_areSeconds_20 (by decide) ?_
        exact v_reti dX4_areSeconds_24 (by first | rfl | exact rt_z) (Pu_i (by simp only [b2i_0, b2i_n0] at *; first | exact (b2i_t (by grind)).symm | exact (b2i_f (by grind)).symm))

