set_option maxRecDepth 100000
/-- on from k while Q holds -/
noncomputable def ru_ (Q : Nat → Prop) : Nat → Nat → Nat
  | 0, k => k
  | f + 1, k => @ite _ (Q k) (Classical.propDecidable _) (ru_ Q f (k + 1)) k
noncomputable def re_ (Q : Nat → Prop) (n k : Nat) : Nat := ru_ Q (n - k) k
theorem re_t {Q : Nat → Prop} {n k : Nat} (h : Q k) (hk : k < n) : re_ Q n k = re_ Q n (k + 1) := by
  unfold re_
  rw [show n - k = (n - (k + 1)) + 1 by omega]
  exact @if_pos _ (Classical.propDecidable _) h _ _ _
theorem re_f {Q : Nat → Prop} {n k : Nat} (h : ¬ Q k) : re_ Q n k = k := by
  unfold re_
  cases n - k with
  | zero => rfl
  | succ f => exact @if_neg _ (Classical.propDecidable _) h _ _ _
theorem re_n {Q : Nat → Prop} {n : Nat} : re_ Q n n = n := by unfold re_; rw [Nat.sub_self]; rfl
theorem ru_ge (Q : Nat → Prop) : ∀ f k, k ≤ ru_ Q f k ∧ ru_ Q f k ≤ k + f
  | 0, k => ⟨Nat.le_refl _, Nat.le_refl _⟩
  | f + 1, k => by
    have := ru_ge Q f (k + 1)
    show k ≤ @ite _ (Q k) (Classical.propDecidable _) (ru_ Q f (k + 1)) k ∧ @ite _ (Q k) (Classical.propDecidable _) (ru_ Q f (k + 1)) k ≤ k + (f + 1)
    split <;> omega
theorem re_ge {Q : Nat → Prop} {n k : Nat} (h : k ≤ n) : k ≤ re_ Q n k ∧ re_ Q n k ≤ n := by
  have := ru_ge Q (n - k) k
  unfold re_
  omega
/-- the tape, as far as it is read -/
def TP_ (h : AH) (T : Nat → Nat) (n : Nat) : Prop := hp_I h 241 28 = nI n ∧ n ≤ 400 ∧ ∀ k, k < n → hp_I h 253 k = nI (T k) ∧ T k < 2 ^ 8
def sm9_ (T : Nat → Nat) (n k : Nat) : Prop := k < n ∧ 97 ≤ T k ∧ T k ≤ 122
def dg9_ (T : Nat → Nat) (n k : Nat) : Prop := k < n ∧ 48 ≤ T k ∧ T k ≤ 57
def sp9_ (T : Nat → Nat) (n k : Nat) : Prop := k < n ∧ (T k = 10 ∨ T k = 32)
noncomputable def sv_ (T : Nat → Nat) (n k : Nat) : Int32 := cf_ (k < n) (nI (T k)) (-1)
theorem sv_t {T : Nat → Nat} {n k : Nat} (h : k < n) : sv_ T n k = nI (T k) := cf_t h
theorem sv_f {T : Nat → Nat} {n k : Nat} (h : ¬ k < n) : sv_ T n k = -1 := cf_f h
theorem sv_eq {T : Nat → Nat} {n k c : Nat} (hT : ∀ k, k < n → T k < 2 ^ 8) (hc : c < 2 ^ 8) : sv_ T n k = nI c ↔ k < n ∧ T k = c := by
  by_cases z : k < n
  · rw [sv_t z, nI_eq (by have := hT k z; omega) (by omega)]; exact ⟨fun y => ⟨z, y⟩, fun y => y.2⟩
  · rw [sv_f z]; exact ⟨fun y => absurd y.symm (nI_ne1 (by omega)), fun y => absurd y.1 z⟩
theorem sv_sm {T : Nat → Nat} {n k : Nat} (hT : ∀ k, k < n → T k < 2 ^ 8) : (nI 97 ≤ sv_ T n k ∧ sv_ T n k ≤ nI 122) ↔ sm9_ T n k := by
  unfold sm9_
  by_cases z : k < n
  · have := hT k z
    rw [sv_t z, nI_leI (by omega) (by omega), nI_leI (by omega) (by omega)]; exact ⟨fun y => ⟨z, y⟩, fun y => y.2⟩
  · rw [sv_f z]; exact ⟨fun y => absurd y.1 (by decide), fun y => absurd y.1 z⟩
theorem sv_dg {T : Nat → Nat} {n k : Nat} (hT : ∀ k, k < n → T k < 2 ^ 8) : (nI 48 ≤ sv_ T n k ∧ sv_ T n k ≤ nI 57) ↔ dg9_ T n k := by
  unfold dg9_
  by_cases z : k < n
  · have := hT k z
    rw [sv_t z, nI_leI (by omega) (by omega), nI_leI (by omega) (by omega)]; exact ⟨fun y => ⟨z, y⟩, fun y => y.2⟩
  · rw [sv_f z]; exact ⟨fun y => absurd y.1 (by decide), fun y => absurd y.1 z⟩
/-- the keys: where they begin, how long they are -/
def ks_ : List Nat := [1, 6, 11, 16, 21, 26, 31, 36, 42, 46, 53, 58, 64]
def kl_ : List Nat := [4, 4, 4, 4, 4, 4, 4, 5, 3, 6, 4, 5]
def kb_ (k : Nat) : Nat := (st_b 0).getD k 0
theorem kb_n : (st_b 0).length = 64 := by decide
theorem kb_k : ∀ m, m < 12 → (∀ i, i ≤ kl_.getD m 0 → (kb_ (ks_.getD m 0 + i) = 32 ↔ i = kl_.getD m 0) ∧ ks_.getD m 0 + i < 64) ∧ ks_.getD (m + 1) 0 = ks_.getD m 0 + kl_.getD m 0 + 1 ∧ kl_.getD m 0 ≤ 6 := by decide
theorem kb_lt {k : Nat} (h : k < 64) : kb_ k < 128 := (st_ok9 0 (by decide)).2 k (by rw [kb_n]; exact h)
/-- the word from a to e is key m -/
def mt_9 (T : Nat → Nat) (a e m : Nat) : Prop := e = a + kl_.getD m 0 ∧ ∀ j, j < kl_.getD m 0 → T (a + j) = kb_ (ks_.getD m 0 + j)
noncomputable def ky_ (T : Nat → Nat) (a e : Nat) : Nat := re_ (fun m => ¬ mt_9 T a e m) 12 0
theorem ky_le (T : Nat → Nat) (a e : Nat) : ky_ T a e ≤ 12 := (re_ge (Nat.zero_le 12)).2
theorem c_X4_see {G : Gv} {h : AH} (hm : MI h) {T : Nat → Nat} {n : Nat} (hT : TP_ h T n) {k : Nat} (hk : k < 1000) : Ctr G 1 yX4_see cX4_see 2 (some .int) [.ref 241, .int (nI k)] h 0 0 (Pu h (.int (sv_ T n k))) := by
  refine ctr_of (own := RX4) (nm := "see") (by decide) (Nat.le_of_ble_eq_true rfl) ?_
  obtain ⟨hz9, hn4, hT9⟩ := hT
  have hT8 : ∀ k, k < n → T k < 2 ^ 8 := fun k hk => (hT9 k hk).2
  refine v_iload_n dX4_see_0 rfl rfl ?_
  refine v_aload_n dX4_see_1 rfl rfl ?_
  refine v_getI fX4_205 dX4_see_2 (mK_obj hm) ?_
  rw [hz9]
  refine v_icmp_ge (tgt := 17) dX4_see_5 (by decide) (fun b5 => ?_) (fun b5 => ?_)
  · skip
    rw [nI_leI (by omega) (by omega)] at b5
    refine v_iconst (v := (-1)) dX4_see_17 (by decide) ?_
    exact v_reti dX4_see_18 rfl (Pu_i (by first | exact (sv_t (by omega)).symm | exact (sv_f (by omega)).symm | exact sv_t (by omega) | exact sv_f (by omega)))
  · skip
    rw [nI_leI (by omega) (by omega)] at b5
    refine v_aload_n dX4_see_8 rfl rfl ?_
    refine v_getR fX4_51 dX4_see_9 (mK_obj hm) (mR_tape hm) ?_ fcA_I
    refine v_iload_n dX4_see_12 rfl rfl ?_
    refine v_iald dX4_see_13 (mK_tape hm) rfl (by first | assumption | omega) ?_
    rw [(hT9 k (by omega)).1]
    refine v_goto (tgt := 18) dX4_see_14 (by decide) ?_
    exact v_reti dX4_see_18 rfl (Pu_i (by first | exact (sv_t (by omega)).symm | exact (sv_f (by omega)).symm | exact sv_t (by omega) | exact sv_f (by omega)))

theorem c_X4_isSmall {G : Gv} {h : AH} (x : Int32) : Ctr G 1 yX4_isSmall cX4_isSmall 1 (some .boolean) [.int x] h 0 0 (Pu h (.int (b2i (nI 97 ≤ x ∧ x ≤ nI 122)))) := by
  refine ctr_of (own := RX4) (nm := "isSmall") (by decide) (Nat.le_of_ble_eq_true rfl) ?_
  refine v_iload_n dX4_isSmall_0 rfl rfl ?_
  refine v_bipush (v := nI 97) dX4_isSmall_1 (by decide) ?_
  refine v_icmp_lt (tgt := 16) dX4_isSmall_3 (by decide) (fun b3 => ?_) (fun b3 => ?_)
  · skip
    refine v_iconst (v := 0) dX4_isSmall_16 (by decide) ?_
    exact v_reti dX4_isSmall_17 (by first | rfl | exact rt_z) (Pu_i (by first | exact (b2i_t (by grind)).symm | exact (b2i_f (by grind)).symm | exact b2i_t (by grind) | exact b2i_f (by grind)))
  · skip
    refine v_iload_n dX4_isSmall_6 rfl rfl ?_
    refine v_bipush (v := nI 122) dX4_isSmall_7 (by decide) ?_
    refine v_icmp_gt (tgt := 16) dX4_isSmall_9 (by decide) (fun b9 => ?_) (fun b9 => ?_)
    · skip
      refine v_iconst (v := 0) dX4_isSmall_16 (by decide) ?_
      exact v_reti dX4_isSmall_17 (by first | rfl | exact rt_z) (Pu_i (by first | exact (b2i_t (by grind)).symm | exact (b2i_f (by grind)).symm | exact b2i_t (by grind) | exact b2i_f (by grind)))
    · skip
      refine v_iconst (v := 1) dX4_isSmall_12 (by decide) ?_
      refine v_goto (tgt := 17) dX4_isSmall_13 (by decide) ?_
      exact v_reti dX4_isSmall_17 (by first | rfl | exact rt_z) (Pu_i (by first | exact (b2i_t (by grind)).symm | exact (b2i_f (by grind)).symm | exact b2i_t (by grind) | exact b2i_f (by grind)))

theorem c_X4_isDigit {G : Gv} {h : AH} (x : Int32) : Ctr G 1 yX4_isDigit cX4_isDigit 1 (some .boolean) [.int x] h 0 0 (Pu h (.int (b2i (nI 48 ≤ x ∧ x ≤ nI 57)))) := by
  refine ctr_of (own := RX4) (nm := "isDigit") (by decide) (Nat.le_of_ble_eq_true rfl) ?_
  refine v_iload_n dX4_isDigit_0 rfl rfl ?_
  refine v_bipush (v := nI 48) dX4_isDigit_1 (by decide) ?_
  refine v_icmp_lt (tgt := 16) dX4_isDigit_3 (by decide) (fun b3 => ?_) (fun b3 => ?_)
  · skip
    refine v_iconst (v := 0) dX4_isDigit_16 (by decide) ?_
    exact v_reti dX4_isDigit_17 (by first | rfl | exact rt_z) (Pu_i (by first | exact (b2i_t (by grind)).symm | exact (b2i_f (by grind)).symm | exact b2i_t (by grind) | exact b2i_f (by grind)))
  · skip
    refine v_iload_n dX4_isDigit_6 rfl rfl ?_
    refine v_bipush (v := nI 57) dX4_isDigit_7 (by decide) ?_
    refine v_icmp_gt (tgt := 16) dX4_isDigit_9 (by decide) (fun b9 => ?_) (fun b9 => ?_)
    · skip
      refine v_iconst (v := 0) dX4_isDigit_16 (by decide) ?_
      exact v_reti dX4_isDigit_17 (by first | rfl | exact rt_z) (Pu_i (by first | exact (b2i_t (by grind)).symm | exact (b2i_f (by grind)).symm | exact b2i_t (by grind) | exact b2i_f (by grind)))
    · skip
      refine v_iconst (v := 1) dX4_isDigit_12 (by decide) ?_
      refine v_goto (tgt := 17) dX4_isDigit_13 (by decide) ?_
      exact v_reti dX4_isDigit_17 (by first | rfl | exact rt_z) (Pu_i (by first | exact (b2i_t (by grind)).symm | exact (b2i_f (by grind)).symm | exact b2i_t (by grind) | exact b2i_f (by grind)))

set_option maxHeartbeats 1000000 in
theorem c_X4_keyAt {G : Gv} {h : AH} (hG : gs_ok G) (hm : MI h) {T : Nat → Nat} {n : Nat} (hT : TP_ h T n) {a e : Nat} (ha : hp_I h 241 26 = nI a) (he : hp_I h 241 27 = nI e) (hae : a ≤ e) (hen : e ≤ n) : Ctr G 5 yX4_keyAt cX4_keyAt 4 (some .int) [.ref 241] h 0 0 (Pu h (.int (nI (ky_ T a e)))) := by
  refine ctr_of (own := RX4) (nm := "keyAt") (by decide) (Nat.le_of_ble_eq_true rfl) ?_
  obtain ⟨hz9, hn4, hT9⟩ := hT
  have hT8 : ∀ k, k < n → T k < 2 ^ 8 := fun k hk => (hT9 k hk).2
  have hkk := kb_k
  have hks : ∀ m, m ≤ 12 → ks_.getD m 0 ≤ 64 := by decide
  refine v_iconst (v := 0) dX4_keyAt_0 (by decide) ?_
  refine v_istore_n dX4_keyAt_1 rfl (by decide) ?_
  refine v_iconst (v := 1) dX4_keyAt_2 (by decide) ?_
  refine v_istore_n dX4_keyAt_3 rfl (by decide) ?_
  refine v_loc2 (by repeat' (first | with_reducible exact lsub_n | with_reducible refine lsub_c ?_ ?_ | with_reducible refine lk_hit ?_ | with_reducible refine lk_miss (by decide) ?_ ?_ | exact rfl)) (v_lp1 (fun (m : Nat) => 12 - m) (fun (m : Nat) => m ≤ 12 ∧ re_ (fun m => ¬ mt_9 T a e m) 12 m = ky_ T a e) (fun (m : Nat) => [(0, .ref 241), (1, .int (nI m)), (2, .int (nI (ks_.getD m 0)))]) (fun _ => []) (fun (m : Nat) => h) ?_ 0 ⟨Nat.zero_le _, rfl⟩)
  intro m hI IHm
  obtain ⟨hI1, hI2⟩ := hI
  refine v_iload_n dX4_keyAt_4 rfl rfl ?_
  refine v_ldcS 0 hG (by decide) rfl rfl dX4_keyAt_5 ?_
  refine v_callVO (b := 1 + 0) (by omega) (hG.1 0 (by decide)).2.1 mtJ8_length q1950 q1015 q1016 dX4_keyAt_7 (c_J8_length hG (i := 0) (by decide)) (by decide) ?_
  rw [kb_n]
  refine v_icmp_ge (tgt := 123) dX4_keyAt_10 (by decide) (fun b10 => ?_) (fun b10 => ?_)
  · skip
    rw [nI_leI (by omega) (by have := hks m hI1; omega)] at b10
    have hm12 : m = 12 := Classical.byContradiction fun y => by have := (hkk m (by omega)).1 0 (Nat.zero_le _); have := this.2; omega
    refine v_bipush (v := 12) dX4_keyAt_123 (by decide) ?_
    subst hm12
    exact v_reti dX4_keyAt_125 rfl (Pu_i (by rw [← hI2, re_n]; rfl))
  · skip
    rw [nI_leI (by omega) (by have := hks m hI1; omega)] at b10
    have hm12 : m < 12 := Classical.byContradiction fun y => by obtain rfl : m = 12 := (by omega); exact b10 (by decide)
    obtain ⟨hK1, hK2, hK3⟩ := hkk m hm12
    refine v_iconst (v := 0) dX4_keyAt_13 (by decide) ?_
    refine v_istore_n dX4_keyAt_14 rfl (by decide) ?_
    refine v_loc2 (by repeat' (first | with_reducible exact lsub_n | with_reducible refine lsub_c ?_ ?_ | with_reducible refine lk_hit ?_ | with_reducible refine lk_miss (by decide) ?_ ?_ | exact rfl)) (v_lp1 (fun (i : Nat) => e - a - i + 10 - i) (fun (i : Nat) => i ≤ kl_.getD m 0 ∧ a + i ≤ e ∧ ∀ j, j < i → T (a + j) = kb_ (ks_.getD m 0 + j)) (fun (i : Nat) => [(0, .ref 241), (1, .int (nI m)), (2, .int (nI (ks_.getD m 0))), (3, .int (nI i))]) (fun _ => []) (fun (i : Nat) => h) ?_ 0 ⟨Nat.zero_le _, hae, fun j hj => absurd hj (Nat.not_lt_zero j)⟩)
    intro i hJ IHi
    obtain ⟨hJ1, hJ2, hJ3⟩ := hJ
    have hKi := (hK1 i hJ1).2
    refine v_cut 69 (i = kl_.getD m 0 ∨ a + i = e ∨ (a + i < e ∧ ¬ T (a + i) = kb_ (ks_.getD m 0 + i))) (fun hz69 => ?_) (fun hc69 => ?_)
    · skip
      refine v_ldcS 0 hG (by decide) rfl rfl dX4_keyAt_69 ?_
      refine v_iload_n dX4_keyAt_71 rfl rfl ?_
      refine v_iload_n dX4_keyAt_72 rfl rfl ?_
      refine v_iadd dX4_keyAt_73 ?_
      rw [nI_add]
      refine v_callVO (b := 1 + 0) (by omega) (hG.1 0 (by decide)).2.1 mtJ8_charAt q1951 q1025 q1026 dX4_keyAt_74 (c_J8_charAt (k := ks_.getD m 0 + i) hG (i := 0) (by decide) (by rw [kb_n]; omega)) (by decide) ?_
      rw [show (st_b 0).getD (ks_.getD m 0 + i) 0 = kb_ (ks_.getD m 0 + i) from rfl]
      refine v_bipush (v := nI 32) dX4_keyAt_77 (by decide) ?_
      refine v_icmp_ne (tgt := 97) dX4_keyAt_79 (by decide) (fun b79 => ?_) (fun b79 => ?_)
      · skip
        rw [nI_eq (by have := kb_lt (k := ks_.getD m 0 + i) (hK1 i hJ1).2; omega) (by omega), (hK1 i hJ1).1] at b79
        have hnm : ¬ mt_9 T a e m := fun y => by
         rcases hz69 with u | u | u
         · exact b79 u
         · have := y.1; omega
         · exact u.2 (y.2 i (by omega))
        refine v_loc2 (by repeat' (first | with_reducible exact lsub_n | with_reducible refine lsub_c ?_ ?_ | with_reducible refine lk_hit ?_ | with_reducible refine lk_miss (by decide) ?_ ?_ | exact rfl)) (v_lp1 (fun (j : Nat) => 10 - j) (fun (j : Nat) => j ≤ kl_.getD m 0) (fun (j : Nat) => [(0, .ref 241), (1, .int (nI m)), (2, .int (nI (ks_.getD m 0 + j))), (3, .int (nI i))]) (fun _ => []) (fun (j : Nat) => h) ?_ 0 (Nat.zero_le _))
        intro j hL1 IHj
        have hKj := (hK1 j hL1).2
        refine v_ldcS 0 hG (by decide) rfl rfl dX4_keyAt_97 ?_
        refine v_iload_n dX4_keyAt_99 rfl rfl ?_
        refine v_callVO (b := 1 + 0) (by omega) (hG.1 0 (by decide)).2.1 mtJ8_charAt q1951 q1025 q1026 dX4_keyAt_100 (c_J8_charAt (k := ks_.getD m 0 + j) hG (i := 0) (by decide) (by rw [kb_n]; omega)) (by decide) ?_
        rw [show (st_b 0).getD (ks_.getD m 0 + j) 0 = kb_ (ks_.getD m 0 + j) from rfl]
        refine v_bipush (v := nI 32) dX4_keyAt_103 (by decide) ?_
        refine v_icmp_eq (tgt := 114) dX4_keyAt_105 (by decide) (fun b105 => ?_) (fun b105 => ?_)
        · skip
          rw [nI_eq (by have := kb_lt (k := ks_.getD m 0 + j) (hK1 j hL1).2; omega) (by omega), (hK1 j hL1).1] at b105
          refine v_iinc dX4_keyAt_114 rfl (by first | with_reducible exact nI_inc _ | exact rfl) (by decide) ?_
          refine v_iinc dX4_keyAt_117 rfl (by first | with_reducible exact nI_inc _ | exact rfl) (by decide) ?_
          refine v_goto (tgt := 4) dX4_keyAt_120 (by decide) ?_
          refine v_loc2 (by repeat' (first | with_reducible exact lsub_n | with_reducible refine lsub_c ?_ ?_ | with_reducible refine lk_hit ?_ | with_reducible refine lk_miss (by decide) ?_ ?_ | (first | (rw [hK2, b105]; done) | (rw [hK2, b105]; exact rfl) | exact rfl))) (IHm (m + 1) ⟨by omega, by rw [← re_t (Q := fun m => ¬ mt_9 T a e m) hnm hm12]; exact hI2⟩ (by omega))
        · skip
          rw [nI_eq (by have := kb_lt (k := ks_.getD m 0 + j) (hK1 j hL1).2; omega) (by omega), (hK1 j hL1).1] at b105
          refine v_iinc dX4_keyAt_108 rfl (by first | with_reducible exact nI_inc _ | exact rfl) (by decide) ?_
          refine v_goto (tgt := 97) dX4_keyAt_111 (by decide) ?_
          refine v_loc2 (by repeat' (first | with_reducible exact lsub_n | with_reducible refine lsub_c ?_ ?_ | with_reducible refine lk_hit ?_ | with_reducible refine lk_miss (by decide) ?_ ?_ | exact rfl)) (IHj (j + 1) (by omega) (by omega))
      · skip
        rw [nI_eq (by have := kb_lt (k := ks_.getD m 0 + i) (hK1 i hJ1).2; omega) (by omega), (hK1 i hJ1).1] at b79
        refine v_aload_n dX4_keyAt_82 rfl rfl ?_
        refine v_getI fX4_220 dX4_keyAt_83 (mK_obj hm) ?_
        rw [ha]
        refine v_iload_n dX4_keyAt_86 rfl rfl ?_
        refine v_iadd dX4_keyAt_87 ?_
        rw [nI_add]
        refine v_aload_n dX4_keyAt_88 rfl rfl ?_
        refine v_getI fX4_223 dX4_keyAt_89 (mK_obj hm) ?_
        rw [he]
        refine v_icmp_ne (tgt := 97) dX4_keyAt_92 (by decide) (fun b92 => ?_) (fun b92 => ?_)
        · skip
          rw [nI_eq (by omega) (by omega)] at b92
          have hnm : ¬ mt_9 T a e m := fun y => by have := y.1; omega
          refine v_loc2 (by repeat' (first | with_reducible exact lsub_n | with_reducible refine lsub_c ?_ ?_ | with_reducible refine lk_hit ?_ | with_reducible refine lk_miss (by decide) ?_ ?_ | exact rfl)) (v_lp1 (fun (j : Nat) => 10 - j) (fun (j : Nat) => j ≤ kl_.getD m 0) (fun (j : Nat) => [(0, .ref 241), (1, .int (nI m)), (2, .int (nI (ks_.getD m 0 + j))), (3, .int (nI i))]) (fun _ => []) (fun (j : Nat) => h) ?_ 0 (Nat.zero_le _))
          intro j hL1 IHj
          have hKj := (hK1 j hL1).2
          refine v_ldcS 0 hG (by decide) rfl rfl dX4_keyAt_97 ?_
          refine v_iload_n dX4_keyAt_99 rfl rfl ?_
          refine v_callVO (b := 1 + 0) (by omega) (hG.1 0 (by decide)).2.1 mtJ8_charAt q1951 q1025 q1026 dX4_keyAt_100 (c_J8_charAt (k := ks_.getD m 0 + j) hG (i := 0) (by decide) (by rw [kb_n]; omega)) (by decide) ?_
          rw [show (st_b 0).getD (ks_.getD m 0 + j) 0 = kb_ (ks_.getD m 0 + j) from rfl]
          refine v_bipush (v := nI 32) dX4_keyAt_103 (by decide) ?_
          refine v_icmp_eq (tgt := 114) dX4_keyAt_105 (by decide) (fun b105 => ?_) (fun b105 => ?_)
          · skip
            rw [nI_eq (by have := kb_lt (k := ks_.getD m 0 + j) (hK1 j hL1).2; omega) (by omega), (hK1 j hL1).1] at b105
            refine v_iinc dX4_keyAt_114 rfl (by first | with_reducible exact nI_inc _ | exact rfl) (by decide) ?_
            refine v_iinc dX4_keyAt_117 rfl (by first | with_reducible exact nI_inc _ | exact rfl) (by decide) ?_
            refine v_goto (tgt := 4) dX4_keyAt_120 (by decide) ?_
            refine v_loc2 (by repeat' (first | with_reducible exact lsub_n | with_reducible refine lsub_c ?_ ?_ | with_reducible refine lk_hit ?_ | with_reducible refine lk_miss (by decide) ?_ ?_ | (first | (rw [hK2, b105]; done) | (rw [hK2, b105]; exact rfl) | exact rfl))) (IHm (m + 1) ⟨by omega, by rw [← re_t (Q := fun m => ¬ mt_9 T a e m) hnm hm12]; exact hI2⟩ (by omega))
          · skip
            rw [nI_eq (by have := kb_lt (k := ks_.getD m 0 + j) (hK1 j hL1).2; omega) (by omega), (hK1 j hL1).1] at b105
            refine v_iinc dX4_keyAt_108 rfl (by first | with_reducible exact nI_inc _ | exact rfl) (by decide) ?_
            refine v_goto (tgt := 97) dX4_keyAt_111 (by decide) ?_
            refine v_loc2 (by repeat' (first | with_reducible exact lsub_n | with_reducible refine lsub_c ?_ ?_ | with_reducible refine lk_hit ?_ | with_reducible refine lk_miss (by decide) ?_ ?_ | exact rfl)) (IHj (j + 1) (by omega) (by omega))
        · skip
          rw [nI_eq (by omega) (by omega)] at b92
          have hym : mt_9 T a e m := ⟨by omega, fun j hj => hJ3 j (by omega)⟩
          refine v_iload_n dX4_keyAt_95 rfl rfl ?_
          exact v_reti dX4_keyAt_96 rfl (Pu_i (by rw [← hI2, re_f (Q := fun m => ¬ mt_9 T a e m) (fun y => y hym)]))
    · skip
      refine v_ldcS 0 hG (by decide) rfl rfl dX4_keyAt_15 ?_
      refine v_iload_n dX4_keyAt_17 rfl rfl ?_
      refine v_iload_n dX4_keyAt_18 rfl rfl ?_
      refine v_iadd dX4_keyAt_19 ?_
      rw [nI_add]
      refine v_callVO (b := 1 + 0) (by omega) (hG.1 0 (by decide)).2.1 mtJ8_charAt q1951 q1025 q1026 dX4_keyAt_20 (c_J8_charAt (k := ks_.getD m 0 + i) hG (i := 0) (by decide) (by rw [kb_n]; omega)) (by decide) ?_
      rw [show (st_b 0).getD (ks_.getD m 0 + i) 0 = kb_ (ks_.getD m 0 + i) from rfl]
      refine v_bipush (v := nI 32) dX4_keyAt_23 (by decide) ?_
      refine v_icmp_eq (tgt := 69) dX4_keyAt_25 (by decide) (fun b25 => ?_) (fun b25 => ?_)
      · skip
        rw [nI_eq (by have := kb_lt (k := ks_.getD m 0 + i) (hK1 i hJ1).2; omega) (by omega), (hK1 i hJ1).1] at b25
        have hq : i = kl_.getD m 0 ∨ a + i = e ∨ (a + i < e ∧ ¬ T (a + i) = kb_ (ks_.getD m 0 + i)) := Or.inl b25
        exact hc69 hq
      · skip
        rw [nI_eq (by have := kb_lt (k := ks_.getD m 0 + i) (hK1 i hJ1).2; omega) (by omega), (hK1 i hJ1).1] at b25
        refine v_aload_n dX4_keyAt_28 rfl rfl ?_
        refine v_getI fX4_220 dX4_keyAt_29 (mK_obj hm) ?_
        rw [ha]
        refine v_iload_n dX4_keyAt_32 rfl rfl ?_
        refine v_iadd dX4_keyAt_33 ?_
        rw [nI_add]
        refine v_aload_n dX4_keyAt_34 rfl rfl ?_
        refine v_getI fX4_223 dX4_keyAt_35 (mK_obj hm) ?_
        rw [he]
        refine v_icmp_ge (tgt := 69) dX4_keyAt_38 (by decide) (fun b38 => ?_) (fun b38 => ?_)
        · skip
          rw [nI_leI (by omega) (by omega)] at b38
          have hq : i = kl_.getD m 0 ∨ a + i = e ∨ (a + i < e ∧ ¬ T (a + i) = kb_ (ks_.getD m 0 + i)) := Or.inr (Or.inl (by omega))
          exact hc69 hq
        · skip
          rw [nI_leI (by omega) (by omega)] at b38
          refine v_aload_n dX4_keyAt_41 rfl rfl ?_
          refine v_getR fX4_51 dX4_keyAt_42 (mK_obj hm) (mR_tape hm) ?_ fcA_I
          refine v_aload_n dX4_keyAt_45 rfl rfl ?_
          refine v_getI fX4_220 dX4_keyAt_46 (mK_obj hm) ?_
          rw [ha]
          refine v_iload_n dX4_keyAt_49 rfl rfl ?_
          refine v_iadd dX4_keyAt_50 ?_
          refine v_iald dX4_keyAt_51 (mK_tape hm) (ix_add rfl rfl) (by first | assumption | omega) ?_
          rw [(hT9 (a + i) (by omega)).1]
          refine v_ldcS 0 hG (by decide) rfl rfl dX4_keyAt_52 ?_
          refine v_iload_n dX4_keyAt_54 rfl rfl ?_
          refine v_iload_n dX4_keyAt_55 rfl rfl ?_
          refine v_iadd dX4_keyAt_56 ?_
          rw [nI_add]
          refine v_callVO (b := 1 + 0) (by omega) (hG.1 0 (by decide)).2.1 mtJ8_charAt q1951 q1025 q1026 dX4_keyAt_57 (c_J8_charAt (k := ks_.getD m 0 + i) hG (i := 0) (by decide) (by rw [kb_n]; omega)) (by decide) ?_
          rw [show (st_b 0).getD (ks_.getD m 0 + i) 0 = kb_ (ks_.getD m 0 + i) from rfl]
          refine v_icmp_ne (tgt := 69) dX4_keyAt_60 (by decide) (fun b60 => ?_) (fun b60 => ?_)
          · skip
            rw [nI_eq (by have := hT8 (a + i) (by omega); omega) (by have := kb_lt (k := ks_.getD m 0 + i) (hK1 i hJ1).2; omega)] at b60
            have hq : i = kl_.getD m 0 ∨ a + i = e ∨ (a + i < e ∧ ¬ T (a + i) = kb_ (ks_.getD m 0 + i)) := Or.inr (Or.inr ⟨by omega, b60⟩)
            exact hc69 hq
          · skip
            rw [nI_eq (by have := hT8 (a + i) (by omega); omega) (by have := kb_lt (k := ks_.getD m 0 + i) (hK1 i hJ1).2; omega)] at b60
            refine v_iinc dX4_keyAt_63 rfl (by first | with_reducible exact nI_inc _ | exact rfl) (by decide) ?_
            refine v_goto (tgt := 15) dX4_keyAt_66 (by decide) ?_
            refine v_loc2 (by repeat' (first | with_reducible exact lsub_n | with_reducible refine lsub_c ?_ ?_ | with_reducible refine lk_hit ?_ | with_reducible refine lk_miss (by decide) ?_ ?_ | exact rfl)) (IHi (i + 1) ⟨by omega, by omega, fun j hj => (Nat.lt_succ_iff_lt_or_eq.mp hj).elim (hJ3 j) (fun u => by rw [u]; exact b60)⟩ (by omega))

