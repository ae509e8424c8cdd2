set_option maxRecDepth 100000
def hs_ (S : Int32) (k : Nat) : Prop := (S >>> (nI k &&& 31)) &&& 1 = 1
def ct_ (h : AH) : Nat → Nat → Int32 := fun j => if j < 6 then hp_I h (263 + j) else fun _ => 0
theorem ct_e {h h1 : AH} (e : ∀ j, j < 6 → hp_I h1 (263 + j) = hp_I h (263 + j)) : ct_ h1 = ct_ h := funext fun j => by
  unfold ct_
  by_cases z : j < 6
  · rw [if_pos z, if_pos z]; exact e j z
  · rw [if_neg z, if_neg z]
def nC_ (h : AH) : Nat := (hp_I h 241 48).toNatClampNeg
/-- the control that rules a person's eyes, of the first n -/
def rul_ (C : Nat → Nat → Int32) (S : Int32) (p t : Nat) : Nat → Int32
  | 0 => -1
  | n + 1 => if (S >>> (nI n &&& 31)) &&& 1 = 1 ∧ C 0 n = 2 ∧ C 1 n = nI p ∧ C 3 n ≤ nI t ∧ nI t ≤ C 4 n then nI n else rul_ C S p t n
theorem rul_s (C : Nat → Nat → Int32) (S : Int32) (p t n : Nat) : rul_ C S p t (n + 1) = if (S >>> (nI n &&& 31)) &&& 1 = 1 ∧ C 0 n = 2 ∧ C 1 n = nI p ∧ C 3 n ≤ nI t ∧ nI t ≤ C 4 n then nI n else rul_ C S p t n := rfl
theorem rul_c (C : Nat → Nat → Int32) (S : Int32) (p t : Nat) : ∀ n, rul_ C S p t n = -1 ∨ ∃ k, k < n ∧ rul_ C S p t n = nI k ∧ C 0 k = 2
  | 0 => Or.inl rfl
  | n + 1 => by
    rw [rul_s]
    split
    · next z => exact Or.inr ⟨n, by omega, rfl, z.2.1⟩
    · rcases rul_c C S p t n with e | ⟨k, h1, h2, h3⟩
      · exact Or.inl e
      · exact Or.inr ⟨k, by omega, h2, h3⟩
/-- the lead that counts, of the first n -/
def lb_ (A : Nat → Int32) (p t : Nat) : Nat → Int32
  | 0 => -1
  | n + 1 => if (A (1020 + 4 * n + 2) ≤ nI t ∧ nI t ≤ A (1020 + 4 * n + 3)) ∧ A (110 + p) < A (1020 + 4 * n + 1) ∧ (lb_ A p t n = -1 ∨ A (1020 + 4 * (lb_ A p t n).toNatClampNeg + 2) ≤ A (1020 + 4 * n + 2)) then nI n else lb_ A p t n
theorem lb_s (A : Nat → Int32) (p t n : Nat) : lb_ A p t (n + 1) = if (A (1020 + 4 * n + 2) ≤ nI t ∧ nI t ≤ A (1020 + 4 * n + 3)) ∧ A (110 + p) < A (1020 + 4 * n + 1) ∧ (lb_ A p t n = -1 ∨ A (1020 + 4 * (lb_ A p t n).toNatClampNeg + 2) ≤ A (1020 + 4 * n + 2)) then nI n else lb_ A p t n := rfl
theorem lb_c (A : Nat → Int32) (p t : Nat) : ∀ n, lb_ A p t n = -1 ∨ ∃ k, k < n ∧ lb_ A p t n = nI k
  | 0 => Or.inl rfl
  | n + 1 => by
    rw [lb_s]
    split
    · exact Or.inr ⟨n, by omega, rfl⟩
    · rcases lb_c A p t n with e | ⟨k, h1, h2⟩
      · exact Or.inl e
      · exact Or.inr ⟨k, by omega, h2⟩
def eyes_ (A : Nat → Int32) (C : Nat → Nat → Int32) (nC : Nat) (S : Int32) (p t : Nat) : Int32 :=
  if rul_ C S p t nC = -1 then (if lb_ A p t (nLed A) = -1 then A (120 + 100 * p + t) else A (1020 + 4 * (lb_ A p t (nLed A)).toNatClampNeg)) else C 2 (rul_ C S p t nC).toNatClampNeg
theorem dl_t {n : Nat} (h : nI n - 1 < 0) (hn : n < 2 ^ 31) : n = 0 := by
  rcases n with _ | m
  · rfl
  · rw [nI_pred] at h
    exact absurd h (nI_pos (by omega))
theorem dl_f {n : Nat} (h : ¬ nI n - 1 < 0) : ∃ m, n = m + 1 := by
  rcases n with _ | m
  · exact absurd (by decide) h
  · exact ⟨m, rfl⟩
theorem nI_dec1 (n : Nat) : nI n + Int32.ofInt (-1) = nI n - 1 := by rw [Int32.sub_eq_add_neg]; rfl
theorem c_X4_leadOf {G : Gv} {h : AH} (hm : MI h) {sN p t : Nat} (hv : sv_ok (hp_I h 243) sN) (hp : p < 9) (ht : t < 100) : Ctr G 2 yX4_leadOf cX4_leadOf 6 (some .int) [.ref 241, .int (nI p), .int (nI t)] h 0 0 (Pu h (.int (lb_ (hp_I h 243) p t (nLed (hp_I h 243))))) := by
  refine ctr_of (own := RX4) (nm := "leadOf") (by decide) (Nat.le_of_ble_eq_true rfl) ?_
  obtain ⟨hL1, hL2⟩ := sv_led hv
  generalize hLg : nLed (hp_I h 243) = L at hL1 hL2
  refine v_iconst (v := (-1)) dX4_leadOf_0 (by decide) ?_
  refine v_istore_n dX4_leadOf_1 rfl (by decide) ?_
  refine v_iconst (v := 0) dX4_leadOf_2 (by decide) ?_
  refine v_istore dX4_leadOf_3 (by decide) ?_
  refine v_loc2 (by repeat' (first | exact trivial | refine And.intro ?_ ?_ | exact rfl)) (v_lp1 (fun (k : Nat) => L - k) (fun (k : Nat) => k ≤ L) (fun (k : Nat) => [(0, .ref 241), (1, .int (nI p)), (2, .int (nI t)), (3, .int (lb_ (hp_I h 243) p t k)), (4, .int (nI k))]) (fun _ => []) (fun (k : Nat) => h) ?_ 0 (Nat.zero_le _))
  intro k hI IH
  refine v_iload dX4_leadOf_5 rfl ?_
  refine v_aload_n dX4_leadOf_7 rfl rfl ?_
  refine v_getR fX4_17 dX4_leadOf_8 (mK_obj hm) (mR_all hm) ?_ fcA_I
  refine v_sipush (v := 4880) dX4_leadOf_11 (by decide) ?_
  refine v_iald dX4_leadOf_14 (mK_all hm) (ix_lit _) (by first | assumption | omega) ?_
  refine v_icmp_ge (tgt := 120) dX4_leadOf_15 (by decide) (fun b15 => ?_) (fun b15 => ?_)
  · skip
    rw [hL2, nI_leI (by omega) (by omega)] at b15
    have hk : k = L := by omega
    subst hk
    refine v_iload_n dX4_leadOf_120 rfl rfl ?_
    exact v_reti dX4_leadOf_121 rfl (Pu_i rfl)
  · skip
    rw [hL2, nI_leI (by omega) (by omega)] at b15
    have hk : k < L := by omega
    refine v_sipush (v := 1020) dX4_leadOf_18 (by decide) ?_
    refine v_iconst (v := 4) dX4_leadOf_21 (by decide) ?_
    refine v_iload dX4_leadOf_22 rfl ?_
    refine v_imul dX4_leadOf_24 ?_
    refine v_iadd dX4_leadOf_25 ?_
    refine v_istore dX4_leadOf_26 (by decide) ?_
    refine v_iload_n dX4_leadOf_28 rfl rfl ?_
    refine v_i2l dX4_leadOf_29 ?_
    refine v_aload_n dX4_leadOf_30 rfl rfl ?_
    refine v_getR fX4_17 dX4_leadOf_31 (mK_obj hm) (mR_all hm) ?_ fcA_I
    refine v_iload dX4_leadOf_34 rfl ?_
    refine v_iconst (v := 2) dX4_leadOf_36 (by decide) ?_
    refine v_iadd dX4_leadOf_37 ?_
    refine v_iald dX4_leadOf_38 (mK_all hm) (ix_add (ix_add (ix_lit _) (ix_mul (ix_lit _) rfl)) (ix_lit _)) (by first | assumption | omega) ?_
    refine v_i2l dX4_leadOf_39 ?_
    refine v_aload_n dX4_leadOf_40 rfl rfl ?_
    refine v_getR fX4_17 dX4_leadOf_41 (mK_obj hm) (mR_all hm) ?_ fcA_I
    refine v_iload dX4_leadOf_44 rfl ?_
    refine v_iconst (v := 3) dX4_leadOf_46 (by decide) ?_
    refine v_iadd dX4_leadOf_47 ?_
    refine v_iald dX4_leadOf_48 (mK_all hm) (ix_add (ix_add (ix_lit _) (ix_mul (ix_lit _) rfl)) (ix_lit _)) (by first | assumption | omega) ?_
    refine v_i2l dX4_leadOf_49 ?_
    refine v_pS mtX4_within q1790 q1791 dX4_leadOf_50 (c_X4_within _ _ _) (by decide) ?_
    refine v_if_eq (tgt := 114) dX4_leadOf_53 (by decide) (fun b53 => ?_) (fun b53 => ?_)
    · skip
      refine v_iinc dX4_leadOf_114 rfl (by first | with_reducible exact nI_inc _ | exact rfl) (by decide) ?_
      refine v_goto (tgt := 5) dX4_leadOf_117 (by decide) ?_
      refine v_loc2 (l' := [(0, .ref 241), (1, .int (nI p)), (2, .int (nI t)), (3, .int (lb_ (hp_I h 243) p t (k + 1))), (4, .int (nI (k + 1)))]) (And.intro rfl (And.intro rfl (And.intro rfl (And.intro (congrArg (fun z => some (Value.int z)) ?_) (And.intro rfl trivial))))) (IH (k + 1) (by omega) (by omega))
      (try simp only [b2i_0, b2i_n0] at *)
      clear IH
      (try rw [← hjb])
      rw [lb_s]
      (try rw [hjc])
      first | exact (if_pos (by grind)).symm | exact (if_neg (by grind)).symm
    · skip
      refine v_aload_n dX4_leadOf_56 rfl rfl ?_
      refine v_getR fX4_17 dX4_leadOf_57 (mK_obj hm) (mR_all hm) ?_ fcA_I
      refine v_bipush (v := 110) dX4_leadOf_60 (by decide) ?_
      refine v_iload_n dX4_leadOf_62 rfl rfl ?_
      refine v_iadd dX4_leadOf_63 ?_
      refine v_iald dX4_leadOf_64 (mK_all hm) (ix_add (ix_lit _) rfl) (by first | assumption | omega) ?_
      refine v_aload_n dX4_leadOf_65 rfl rfl ?_
      refine v_getR fX4_17 dX4_leadOf_66 (mK_obj hm) (mR_all hm) ?_ fcA_I
      refine v_iload dX4_leadOf_69 rfl ?_
      refine v_iconst (v := 1) dX4_leadOf_71 (by decide) ?_
      refine v_iadd dX4_leadOf_72 ?_
      refine v_iald dX4_leadOf_73 (mK_all hm) (ix_add (ix_add (ix_lit _) (ix_mul (ix_lit _) rfl)) (ix_lit _)) (by first | assumption | omega) ?_
      refine v_icmp_lt (tgt := 80) dX4_leadOf_74 (by decide) (fun b74 => ?_) (fun b74 => ?_)
      · skip
        refine v_iload_n dX4_leadOf_80 rfl rfl ?_
        refine v_iconst (v := (-1)) dX4_leadOf_81 (by decide) ?_
        refine v_icmp_eq (tgt := 111) dX4_leadOf_82 (by decide) (fun b82 => ?_) (fun b82 => ?_)
        · skip
          refine v_iload dX4_leadOf_111 rfl ?_
          refine v_istore_n dX4_leadOf_113 rfl (by decide) ?_
          refine v_iinc dX4_leadOf_114 rfl (by first | with_reducible exact nI_inc _ | exact rfl) (by decide) ?_
          refine v_goto (tgt := 5) dX4_leadOf_117 (by decide) ?_
          refine v_loc2 (l' := [(0, .ref 241), (1, .int (nI p)), (2, .int (nI t)), (3, .int (lb_ (hp_I h 243) p t (k + 1))), (4, .int (nI (k + 1)))]) (And.intro rfl (And.intro rfl (And.intro rfl (And.intro (congrArg (fun z => some (Value.int z)) ?_) (And.intro rfl trivial))))) (IH (k + 1) (by omega) (by omega))
          (try simp only [b2i_0, b2i_n0] at *)
          clear IH
          (try rw [← hjb])
          rw [lb_s]
          (try rw [hjc])
          first | exact (if_pos (by grind)).symm | exact (if_neg (by grind)).symm
        · skip
          obtain ⟨j, hj, hjb⟩ := (lb_c (hp_I h 243) p t k).resolve_left b82
          have hjc : (lb_ (hp_I h 243) p t k).toNatClampNeg = j := by rw [hjb]; exact nI_clamp (by omega)
          refine v_aload_n dX4_leadOf_85 rfl rfl ?_
          refine v_getR fX4_17 dX4_leadOf_86 (mK_obj hm) (mR_all hm) ?_ fcA_I
          refine v_iload dX4_leadOf_89 rfl ?_
          refine v_iconst (v := 2) dX4_leadOf_91 (by decide) ?_
          refine v_iadd dX4_leadOf_92 ?_
          refine v_iald dX4_leadOf_93 (mK_all hm) (ix_add (ix_add (ix_lit _) (ix_mul (ix_lit _) rfl)) (ix_lit _)) (by first | assumption | omega) ?_
          refine v_aload_n dX4_leadOf_94 rfl rfl ?_
          refine v_getR fX4_17 dX4_leadOf_95 (mK_obj hm) (mR_all hm) ?_ fcA_I
          refine v_sipush (v := 1020) dX4_leadOf_98 (by decide) ?_
          refine v_iconst (v := 4) dX4_leadOf_101 (by decide) ?_
          refine v_iload_n dX4_leadOf_102 rfl rfl ?_
          rw [hjb]
          refine v_imul dX4_leadOf_103 ?_
          refine v_iadd dX4_leadOf_104 ?_
          refine v_iconst (v := 2) dX4_leadOf_105 (by decide) ?_
          refine v_iadd dX4_leadOf_106 ?_
          refine v_iald dX4_leadOf_107 (mK_all hm) (ix_add (ix_add (ix_lit _) (ix_mul (ix_lit _) rfl)) (ix_lit _)) (by first | assumption | omega) ?_
          refine v_icmp_lt (tgt := 114) dX4_leadOf_108 (by decide) (fun b108 => ?_) (fun b108 => ?_)
          · skip
            refine v_iinc dX4_leadOf_114 rfl (by first | with_reducible exact nI_inc _ | exact rfl) (by decide) ?_
            refine v_goto (tgt := 5) dX4_leadOf_117 (by decide) ?_
            refine v_loc2 (l' := [(0, .ref 241), (1, .int (nI p)), (2, .int (nI t)), (3, .int (lb_ (hp_I h 243) p t (k + 1))), (4, .int (nI (k + 1)))]) (And.intro rfl (And.intro rfl (And.intro rfl (And.intro (congrArg (fun z => some (Value.int z)) ?_) (And.intro rfl trivial))))) (IH (k + 1) (by omega) (by omega))
            (try simp only [b2i_0, b2i_n0] at *)
            clear IH
            (try rw [← hjb])
            rw [lb_s]
            (try rw [hjc])
            first | exact (if_pos (by grind)).symm | exact (if_neg (by grind)).symm
          · skip
            refine v_iload dX4_leadOf_111 rfl ?_
            refine v_istore_n dX4_leadOf_113 rfl (by decide) ?_
            refine v_iinc dX4_leadOf_114 rfl (by first | with_reducible exact nI_inc _ | exact rfl) (by decide) ?_
            refine v_goto (tgt := 5) dX4_leadOf_117 (by decide) ?_
            refine v_loc2 (l' := [(0, .ref 241), (1, .int (nI p)), (2, .int (nI t)), (3, .int (lb_ (hp_I h 243) p t (k + 1))), (4, .int (nI (k + 1)))]) (And.intro rfl (And.intro rfl (And.intro rfl (And.intro (congrArg (fun z => some (Value.int z)) ?_) (And.intro rfl trivial))))) (IH (k + 1) (by omega) (by omega))
            (try simp only [b2i_0, b2i_n0] at *)
            clear IH
            (try rw [← hjb])
            rw [lb_s]
            (try rw [hjc])
            first | exact (if_pos (by grind)).symm | exact (if_neg (by grind)).symm
      · skip
        refine v_goto (tgt := 114) dX4_leadOf_77 (by decide) ?_
        refine v_iinc dX4_leadOf_114 rfl (by first | with_reducible exact nI_inc _ | exact rfl) (by decide) ?_
        refine v_goto (tgt := 5) dX4_leadOf_117 (by decide) ?_
        refine v_loc2 (l' := [(0, .ref 241), (1, .int (nI p)), (2, .int (nI t)), (3, .int (lb_ (hp_I h 243) p t (k + 1))), (4, .int (nI (k + 1)))]) (And.intro rfl (And.intro rfl (And.intro rfl (And.intro (congrArg (fun z => some (Value.int z)) ?_) (And.intro rfl trivial))))) (IH (k + 1) (by omega) (by omega))
        (try simp only [b2i_0, b2i_n0] at *)
        clear IH
        (try rw [← hjb])
        rw [lb_s]
        (try rw [hjc])
        first | exact (if_pos (by grind)).symm | exact (if_neg (by grind)).symm

theorem c_X4_ruler {G : Gv} {h : AH} (hm : MI h) {nC p t : Nat} (hC : hp_I h 241 48 = nI nC) (hC8 : nC ≤ 8) (S : Int32) : Ctr G 2 yX4_ruler cX4_ruler 5 (some .int) [.ref 241, .int (nI p), .int (nI t), .int S] h 0 0 (Pu h (.int (rul_ (ct_ h) S p t nC))) := by
  refine ctr_of (own := RX4) (nm := "ruler") (by decide) (Nat.le_of_ble_eq_true rfl) ?_
  refine v_aload_n dX4_ruler_0 rfl rfl ?_
  refine v_getI fX4_122 dX4_ruler_1 (mK_obj hm) ?_
  rw [hC]
  refine v_iconst (v := 1) dX4_ruler_4 (by decide) ?_
  refine v_isub dX4_ruler_5 ?_
  refine v_istore dX4_ruler_6 (by decide) ?_
  refine v_loc2 (by repeat' (first | exact trivial | refine And.intro ?_ ?_ | exact rfl)) (v_lp1 (fun (n : Nat) => n) (fun (n : Nat) => n ≤ nC ∧ rul_ (ct_ h) S p t n = rul_ (ct_ h) S p t nC) (fun (n : Nat) => [(0, .ref 241), (1, .int (nI p)), (2, .int (nI t)), (3, .int S), (4, .int (nI n - 1))]) (fun _ => []) (fun (n : Nat) => h) ?_ nC ⟨Nat.le_refl _, rfl⟩)
  intro n hI IH
  obtain ⟨hI1, hI2⟩ := hI
  refine v_iload dX4_ruler_8 rfl ?_
  refine v_if_lt (tgt := 77) dX4_ruler_10 (by decide) (fun b10 => ?_) (fun b10 => ?_)
  · skip
    have hn := dl_t b10 (by omega)
    subst hn
    refine v_iconst (v := (-1)) dX4_ruler_77 (by decide) ?_
    exact v_reti dX4_ruler_78 rfl (Pu_i hI2)
  · skip
    obtain ⟨k, rfl⟩ := dl_f b10
    rw [nI_pred]
    rw [nI_pred] at b10
    refine v_iload_n dX4_ruler_13 rfl rfl ?_
    refine v_iload dX4_ruler_14 rfl ?_
    refine v_pS mtX4_has q1859 q1860 dX4_ruler_16 (c_X4_has _ _) (by decide) ?_
    refine v_if_eq (tgt := 71) dX4_ruler_19 (by decide) (fun b19 => ?_) (fun b19 => ?_)
    · skip
      refine v_iinc dX4_ruler_71 rfl (by first | with_reducible exact nI_inc _ | exact rfl) (by decide) ?_
      refine v_goto (tgt := 8) dX4_ruler_74 (by decide) ?_
      refine v_loc2 (l' := [(0, .ref 241), (1, .int (nI p)), (2, .int (nI t)), (3, .int S), (4, .int (nI k - 1))]) (And.intro rfl (And.intro rfl (And.intro rfl (And.intro rfl (And.intro (congrArg (fun z => some (Value.int z)) (nI_dec1 k)) trivial))))) (IH k ⟨by omega, ?_⟩ (by omega))
      (try simp only [b2i_0, b2i_n0] at *)
      rw [← hI2, rul_s]
      exact (if_neg (by show ¬ (_ ∧ hp_I h 263 k = 2 ∧ hp_I h 264 k = nI p ∧ hp_I h 266 k ≤ nI t ∧ nI t ≤ hp_I h 267 k); grind)).symm
    · skip
      refine v_aload_n dX4_ruler_22 rfl rfl ?_
      refine v_getR fX4_85 dX4_ruler_23 (mK_obj hm) (mR_controlKind hm) ?_ fcA_I
      refine v_iload dX4_ruler_26 rfl ?_
      refine v_iald dX4_ruler_28 (mK_controlKind hm) rfl (by first | assumption | omega) ?_
      refine v_iconst (v := 2) dX4_ruler_29 (by decide) ?_
      refine v_icmp_ne (tgt := 71) dX4_ruler_30 (by decide) (fun b30 => ?_) (fun b30 => ?_)
      · skip
        refine v_iinc dX4_ruler_71 rfl (by first | with_reducible exact nI_inc _ | exact rfl) (by decide) ?_
        refine v_goto (tgt := 8) dX4_ruler_74 (by decide) ?_
        refine v_loc2 (l' := [(0, .ref 241), (1, .int (nI p)), (2, .int (nI t)), (3, .int S), (4, .int (nI k - 1))]) (And.intro rfl (And.intro rfl (And.intro rfl (And.intro rfl (And.intro (congrArg (fun z => some (Value.int z)) (nI_dec1 k)) trivial))))) (IH k ⟨by omega, ?_⟩ (by omega))
        (try simp only [b2i_0, b2i_n0] at *)
        rw [← hI2, rul_s]
        exact (if_neg (by show ¬ (_ ∧ hp_I h 263 k = 2 ∧ hp_I h 264 k = nI p ∧ hp_I h 266 k ≤ nI t ∧ nI t ≤ hp_I h 267 k); grind)).symm
      · skip
        refine v_aload_n dX4_ruler_33 rfl rfl ?_
        refine v_getR fX4_88 dX4_ruler_34 (mK_obj hm) (mR_controlWhat hm) ?_ fcA_I
        refine v_iload dX4_ruler_37 rfl ?_
        refine v_iald dX4_ruler_39 (mK_controlWhat hm) rfl (by first | assumption | omega) ?_
        refine v_iload_n dX4_ruler_40 rfl rfl ?_
        refine v_icmp_ne (tgt := 71) dX4_ruler_41 (by decide) (fun b41 => ?_) (fun b41 => ?_)
        · skip
          refine v_iinc dX4_ruler_71 rfl (by first | with_reducible exact nI_inc _ | exact rfl) (by decide) ?_
          refine v_goto (tgt := 8) dX4_ruler_74 (by decide) ?_
          refine v_loc2 (l' := [(0, .ref 241), (1, .int (nI p)), (2, .int (nI t)), (3, .int S), (4, .int (nI k - 1))]) (And.intro rfl (And.intro rfl (And.intro rfl (And.intro rfl (And.intro (congrArg (fun z => some (Value.int z)) (nI_dec1 k)) trivial))))) (IH k ⟨by omega, ?_⟩ (by omega))
          (try simp only [b2i_0, b2i_n0] at *)
          rw [← hI2, rul_s]
          exact (if_neg (by show ¬ (_ ∧ hp_I h 263 k = 2 ∧ hp_I h 264 k = nI p ∧ hp_I h 266 k ≤ nI t ∧ nI t ≤ hp_I h 267 k); grind)).symm
        · skip
          refine v_iload_n dX4_ruler_44 rfl rfl ?_
          refine v_i2l dX4_ruler_45 ?_
          refine v_aload_n dX4_ruler_46 rfl rfl ?_
          refine v_getR fX4_94 dX4_ruler_47 (mK_obj hm) (mR_controlFrom hm) ?_ fcA_I
          refine v_iload dX4_ruler_50 rfl ?_
          refine v_iald dX4_ruler_52 (mK_controlFrom hm) rfl (by first | assumption | omega) ?_
          refine v_i2l dX4_ruler_53 ?_
          refine v_aload_n dX4_ruler_54 rfl rfl ?_
          refine v_getR fX4_97 dX4_ruler_55 (mK_obj hm) (mR_controlTo hm) ?_ fcA_I
          refine v_iload dX4_ruler_58 rfl ?_
          refine v_iald dX4_ruler_60 (mK_controlTo hm) rfl (by first | assumption | omega) ?_
          refine v_i2l dX4_ruler_61 ?_
          refine v_pS mtX4_within q1790 q1791 dX4_ruler_62 (c_X4_within _ _ _) (by decide) ?_
          refine v_if_eq (tgt := 71) dX4_ruler_65 (by decide) (fun b65 => ?_) (fun b65 => ?_)
          · skip
            refine v_iinc dX4_ruler_71 rfl (by first | with_reducible exact nI_inc _ | exact rfl) (by decide) ?_
            refine v_goto (tgt := 8) dX4_ruler_74 (by decide) ?_
            refine v_loc2 (l' := [(0, .ref 241), (1, .int (nI p)), (2, .int (nI t)), (3, .int S), (4, .int (nI k - 1))]) (And.intro rfl (And.intro rfl (And.intro rfl (And.intro rfl (And.intro (congrArg (fun z => some (Value.int z)) (nI_dec1 k)) trivial))))) (IH k ⟨by omega, ?_⟩ (by omega))
            (try simp only [b2i_0, b2i_n0] at *)
            rw [← hI2, rul_s]
            exact (if_neg (by show ¬ (_ ∧ hp_I h 263 k = 2 ∧ hp_I h 264 k = nI p ∧ hp_I h 266 k ≤ nI t ∧ nI t ≤ hp_I h 267 k); grind)).symm
          · skip
            refine v_iload dX4_ruler_68 rfl ?_
            (try simp only [b2i_0, b2i_n0] at *)
            exact v_reti dX4_ruler_70 rfl (Pu_i (by rw [← hI2, rul_s]; exact (if_pos (by show (_ ∧ hp_I h 263 k = 2 ∧ hp_I h 264 k = nI p ∧ hp_I h 266 k ≤ nI t ∧ nI t ≤ hp_I h 267 k); grind)).symm))

theorem c_X4_eyesOf {G : Gv} {h : AH} (hm : MI h) {sN nC p t : Nat} (hv : sv_ok (hp_I h 243) sN) (hC : hp_I h 241 48 = nI nC) (hC8 : nC ≤ 8) (hp : p < 9) (ht : t < 100) (S : Int32) : Ctr G 3 yX4_eyesOf cX4_eyesOf 6 (some .int) [.ref 241, .int (nI p), .int (nI t), .int S] h 0 0 (Pu h (.int (eyes_ (hp_I h 243) (ct_ h) nC S p t))) := by
  refine ctr_of (own := RX4) (nm := "eyesOf") (by decide) (Nat.le_of_ble_eq_true rfl) ?_
  refine v_aload_n dX4_eyesOf_0 rfl rfl ?_
  refine v_iload_n dX4_eyesOf_1 rfl rfl ?_
  refine v_iload_n dX4_eyesOf_2 rfl rfl ?_
  refine v_iload_n dX4_eyesOf_3 rfl rfl ?_
  refine v_pV mtX4_ruler q1866 q1868 qs67 rfl (by decide) dX4_eyesOf_4 (c_X4_ruler hm hC hC8 _) (mK_obj hm) (by decide) ?_
  refine v_istore dX4_eyesOf_7 (by decide) ?_
  refine v_iload dX4_eyesOf_9 rfl ?_
  refine v_iconst (v := (-1)) dX4_eyesOf_11 (by decide) ?_
  refine v_icmp_eq (tgt := 23) dX4_eyesOf_12 (by decide) (fun b12 => ?_) (fun b12 => ?_)
  · skip
    refine v_aload_n dX4_eyesOf_23 rfl rfl ?_
    refine v_iload_n dX4_eyesOf_24 rfl rfl ?_
    refine v_iload_n dX4_eyesOf_25 rfl rfl ?_
    refine v_pV mtX4_leadOf q1870 q1872 qs68 rfl (by decide) dX4_eyesOf_26 (c_X4_leadOf hm hv ?_ ?_) (mK_obj hm) (by decide) ?_
    · omega
    · omega
    refine v_istore dX4_eyesOf_29 (by decide) ?_
    refine v_iload dX4_eyesOf_31 rfl ?_
    refine v_iconst (v := (-1)) dX4_eyesOf_33 (by decide) ?_
    refine v_icmp_ne (tgt := 54) dX4_eyesOf_34 (by decide) (fun b34 => ?_) (fun b34 => ?_)
    · skip
      obtain ⟨j, hj, hjb⟩ := (lb_c (hp_I h 243) p t (nLed (hp_I h 243))).resolve_left b34
      have hL := (sv_led hv).1
      refine v_aload_n dX4_eyesOf_54 rfl rfl ?_
      refine v_getR fX4_17 dX4_eyesOf_55 (mK_obj hm) (mR_all hm) ?_ fcA_I
      refine v_sipush (v := 1020) dX4_eyesOf_58 (by decide) ?_
      refine v_iconst (v := 4) dX4_eyesOf_61 (by decide) ?_
      refine v_iload dX4_eyesOf_62 rfl ?_
      rw [hjb]
      refine v_imul dX4_eyesOf_64 ?_
      refine v_iadd dX4_eyesOf_65 ?_
      refine v_iald dX4_eyesOf_66 (mK_all hm) (ix_add (ix_lit _) (ix_mul (ix_lit _) rfl)) (by first | assumption | omega) ?_
      first | exact v_reti dX4_eyesOf_67 rfl (Pu_i (by unfold eyes_; rw [if_pos b12, if_pos b34])) | exact v_reti dX4_eyesOf_67 rfl (Pu_i (by unfold eyes_; rw [if_pos b12, if_neg b34, hjb, nI_clamp (by omega)]))
    · skip
      refine v_aload_n dX4_eyesOf_37 rfl rfl ?_
      refine v_getR fX4_17 dX4_eyesOf_38 (mK_obj hm) (mR_all hm) ?_ fcA_I
      refine v_bipush (v := 120) dX4_eyesOf_41 (by decide) ?_
      refine v_bipush (v := 100) dX4_eyesOf_43 (by decide) ?_
      refine v_iload_n dX4_eyesOf_45 rfl rfl ?_
      refine v_imul dX4_eyesOf_46 ?_
      refine v_iadd dX4_eyesOf_47 ?_
      refine v_iload_n dX4_eyesOf_48 rfl rfl ?_
      refine v_iadd dX4_eyesOf_49 ?_
      refine v_iald dX4_eyesOf_50 (mK_all hm) (ix_add (ix_add (ix_lit _) (ix_mul (ix_lit _) rfl)) rfl) (by first | assumption | omega) ?_
      refine v_goto (tgt := 67) dX4_eyesOf_51 (by decide) ?_
      first | exact v_reti dX4_eyesOf_67 rfl (Pu_i (by unfold eyes_; rw [if_pos b12, if_pos b34])) | exact v_reti dX4_eyesOf_67 rfl (Pu_i (by unfold eyes_; rw [if_pos b12, if_neg b34, hjb, nI_clamp (by omega)]))
  · skip
    obtain ⟨j, hj, hjb, -⟩ := (rul_c (ct_ h) S p t nC).resolve_left b12
    refine v_aload_n dX4_eyesOf_15 rfl rfl ?_
    refine v_getR fX4_91 dX4_eyesOf_16 (mK_obj hm) (mR_controlV hm) ?_ fcA_I
    refine v_iload dX4_eyesOf_19 rfl ?_
    rw [hjb]
    refine v_iald dX4_eyesOf_21 (mK_controlV hm) rfl (by first | assumption | omega) ?_
    exact v_reti dX4_eyesOf_22 rfl (Pu_i (by unfold eyes_; rw [if_neg b12, hjb, nI_clamp (by omega)]; rfl))

