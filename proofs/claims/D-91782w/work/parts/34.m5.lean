set_option maxRecDepth 100000
theorem sw_out {x : Int32} {n : Nat} (h : ¬ (0 ≤ x ∧ x ≤ nI n)) (hn : n < 2 ^ 31) : x.toInt < 0 ∨ (n : Int) < x.toInt := by
  by_cases z : x.toInt < 0
  · exact Or.inl z
  · refine Or.inr (Int.not_le.mp fun y => h ⟨?_, ?_⟩)
    · rw [Int32.le_iff_toInt_le]; show (0 : Int) ≤ _; omega
    · rw [Int32.le_iff_toInt_le, nI_toInt hn]; exact y
def g0_ (k : Nat) : Int32 := if (120 ≤ k ∧ k < 1020) ∨ (1070 ≤ k ∧ k < 4670) then -1 else 0
def bgA_ (A : Nat → Int32) : Nat → Int32 := rg_ (fl_ (fl_ A g0_ 4890) (fun _ => 9) 100) 100 109 5
def bg_ (h : AH) (n : Int32) : AH := up_I (up_I (up_I (up_IA (up_IA (up_I h 241 4 n) 243 (bgA_ (hp_I h 243))) 244 (fl_ (hp_I h 244) (fun _ => 0) 3)) 241 42 0) 241 48 0) 241 56 0
def sp_room (h : AH) (n : Int32) : Int32 × AH := if ¬ (3 ≤ n ∧ n ≤ 9) then (0, rf_ (th_ h) 2) else (1, bg_ (th_ h) n)
def ci_ (A : Nat → Int32) (i k : Nat) : Nat → Int32 := fun j => if 4890 * (i + 1) ≤ j ∧ j < 4890 * (i + 1) + k then A (j - 4890 * (i + 1)) else A j
theorem ci_0 (A : Nat → Int32) (i : Nat) : ci_ A i 0 = A := funext fun j => if_neg (by omega)
theorem ci_s (A : Nat → Int32) (i k : Nat) : upd (ci_ A i k) (4890 * (i + 1) + k) (A k) = ci_ A i (k + 1) := funext fun j => by
  unfold upd ci_
  by_cases e : j = 4890 * (i + 1) + k
  · rw [if_pos e, if_pos (by omega), show j - 4890 * (i + 1) = k by omega]
  · rw [if_neg e]
    by_cases z : 4890 * (i + 1) ≤ j ∧ j < 4890 * (i + 1) + k
    · rw [if_pos z, if_pos (by omega)]
    · rw [if_neg z, if_neg (by omega)]
theorem ci_r {A : Nat → Int32} {i k n : Nat} (h : n < 4890) : ci_ A i k n = A n := if_neg (by omega)
theorem fl_r {f g : Nat → Int32} {k n : Nat} (h : k ≤ n) : fl_ f g k n = f n := if_neg (by omega)
def sp_image (h : AH) (i : Int32) : Int32 × AH := if ¬ (0 ≤ i ∧ i ≤ 2) then (0, rf_ (th_ h) 1) else (1, up_I (up_IA (th_ h) 243 (ci_ (hp_I h 243) i.toNatClampNeg 4890)) 244 i.toNatClampNeg 1)
def sp_restore (h : AH) (i : Int32) : Int32 × AH := if ¬ (0 ≤ i ∧ i ≤ 2) then (0, rf_ (th_ h) 1) else if hp_I h 244 i.toNatClampNeg = 0 then (0, rf_ (th_ h) 5)
  else (1, up_IA (th_ h) 243 (fl_ (hp_I h 243) (fun k => hp_I h 243 (4890 * (i.toNatClampNeg + 1) + k)) 4890))
def sp_where (h : AH) (t s : Int32) : Int32 × AH := (if (0 ≤ t ∧ t < hp_I h 243 4881) ∧ (s = -1 ∨ (0 ≤ s ∧ s ≤ 99)) then wh_ (hp_I h 243) t.toNatClampNeg (s + 1) (nMov (hp_I h 243)) else -1, th_ h)
def sp_status (h : AH) (x : Int32) : Int32 × AH := (if 1 ≤ x ∧ x ≤ 5 then hp_I h 242 x.toNatClampNeg else -1, th_ h)
def sp_fault (h : AH) (x : Int32) : Int32 × AH := (if x = 0 then hp_I h 241 34 else if x = 1 then hp_I h 241 35 else -1, th_ h)
def sp_trial (h : AH) (n x : Int32) : Int32 × AH := if ¬ ((2 ≤ n ∧ n ≤ 20) ∧ (1 ≤ x ∧ x ≤ n - 1)) then (-1, rf_ (th_ h) 2) else if hp_I h 241 56 = 9 then (-1, rf_ (th_ h) 3)
  else (hp_I h 241 56, up_I (up_I (up_I (th_ h) 270 (hp_I h 241 56).toNatClampNeg n) 271 (hp_I h 241 56).toNatClampNeg x) 241 56 (hp_I h 241 56 + 1))
def sp_count (h : AH) (x : Int32) : Int32 × AH := (if x = 0 then hp_I h 241 4 else if x = 1 then hp_I h 243 4880 else if x = 2 then hp_I h 243 4881 else if x = 3 then hp_I h 243 4882 else if x = 4 then hp_I h 241 15 else if x = 5 then hp_I h 241 16 else if x = 6 then hp_I h 241 17 else if x = 7 then hp_I h 241 42 else if x = 8 then hp_I h 241 48 else if x = 9 then hp_I h 241 56 else if x = 10 then hp_I h 241 14 else -1, th_ h)
theorem IA_sw (h : AH) (p k q : Nat) (v : Int32) : hp_I (up_I h p k v) q = if q = p then upd (hp_I h q) k v else hp_I h q := by
  by_cases e : q = p
  · rw [if_pos e, e, up_Iu]
  · rw [if_neg e]; exact funext fun j => by rw [hp_I_I, if_neg (fun z => e z.1)]
theorem II_n {h : AH} {p k q : Nat} {v : Int32} (n : q ≠ p) : hp_I (up_I h p k v) q = hp_I h q := by rw [IA_sw, if_neg n]
theorem c_X4_begins {G : Gv} {h : AH} (hm : MI h) (n : Int32) : Ctr G 1 yX4_begins cX4_begins 3 none [.ref 241, .int n] h 0 0 (fun r h1 => r = none ∧ h1 = bg_ h n) := by
  refine ctr_of (own := RX4) (nm := "begins") (by decide) (Nat.le_of_ble_eq_true rfl) ?_
  refine v_aload_n dX4_begins_0 rfl rfl ?_
  refine v_iload_n dX4_begins_1 rfl rfl ?_
  refine v_putI fX4_24 (.inl rfl) dX4_begins_2 (mK_obj hm) ?_
  refine v_iconst (v := 0) dX4_begins_5 (by decide) ?_
  refine v_istore_n dX4_begins_6 rfl (by decide) ?_
  refine v_loc2 (by repeat' (first | exact trivial | refine And.intro ?_ ?_ | exact rfl)) (v_lp2 (fun (k : Nat) (hh : AH) => 4890 - k) (fun (k : Nat) (hh : AH) => k ≤ 4890 ∧ hh = up_IA (up_I h 241 4 n) 243 (fl_ (hp_I h 243) g0_ k)) (fun (k : Nat) (hh : AH) => [(0, .ref 241), (1, .int n), (2, .int (nI k))]) (fun (k : Nat) (hh : AH) => hh) ?_ 0 _ ⟨by omega, by rw [fl_0, show hp_I h 243 = hp_I (up_I h 241 4 n) 243 from (II_n (by decide)).symm, IA_id]⟩)
  intro k hh hI IH
  obtain ⟨hI, rfl⟩ := hI
  have hm : MI (up_IA (up_I h 241 4 n) 243 (fl_ (hp_I h 243) g0_ k)) := hm
  refine v_iload_n dX4_begins_7 rfl rfl ?_
  refine v_sipush (v := nI 4890) dX4_begins_8 (by decide) ?_
  refine v_icmp_ge (tgt := 58) dX4_begins_11 (by decide) (fun b11 => ?_) (fun b11 => ?_)
  · skip
    rw [nI_leI (by decide) (by omega)] at b11
    have hk : k = 4890 := by omega
    subst hk
    clear IH
    refine v_iconst (v := 0) dX4_begins_58 (by decide) ?_
    refine v_istore_n dX4_begins_59 rfl (by decide) ?_
    refine v_loc2 (by repeat' (first | exact trivial | refine And.intro ?_ ?_ | exact rfl)) (v_lp2 (fun (k : Nat) (hh : AH) => 100 - k) (fun (k : Nat) (hh : AH) => k ≤ 100 ∧ hh = up_IA (up_I h 241 4 n) 243 (fl_ (fl_ (hp_I h 243) g0_ 4890) (fun _ => 9) k)) (fun (k : Nat) (hh : AH) => [(0, .ref 241), (1, .int n), (2, .int (nI k))]) (fun (k : Nat) (hh : AH) => hh) ?_ 0 _ ⟨by omega, by rw [fl_0]⟩)
    intro k hh hI IH
    obtain ⟨hI, rfl⟩ := hI
    have hm : MI (up_IA (up_I h 241 4 n) 243 (fl_ (fl_ (hp_I h 243) g0_ 4890) (fun _ => 9) k)) := hm
    refine v_iload_n dX4_begins_60 rfl rfl ?_
    refine v_bipush (v := nI 100) dX4_begins_61 (by decide) ?_
    refine v_icmp_ge (tgt := 82) dX4_begins_63 (by decide) (fun b63 => ?_) (fun b63 => ?_)
    · skip
      rw [nI_leI (by decide) (by omega)] at b63
      have hk : k = 100 := by omega
      subst hk
      clear IH
      refine v_iconst (v := 0) dX4_begins_82 (by decide) ?_
      refine v_istore_n dX4_begins_83 rfl (by decide) ?_
      refine v_loc2 (by repeat' (first | exact trivial | refine And.intro ?_ ?_ | exact rfl)) (v_lp2 (fun (k : Nat) (hh : AH) => 9 - k) (fun (k : Nat) (hh : AH) => k ≤ 9 ∧ hh = up_IA (up_I h 241 4 n) 243 (rg_ (fl_ (fl_ (hp_I h 243) g0_ 4890) (fun _ => 9) 100) 100 (100 + k) 5)) (fun (k : Nat) (hh : AH) => [(0, .ref 241), (1, .int n), (2, .int (nI k))]) (fun (k : Nat) (hh : AH) => hh) ?_ 0 _ ⟨by omega, by rw [rg_0]⟩)
      intro k hh hI IH
      obtain ⟨hI, rfl⟩ := hI
      have hm : MI (up_IA (up_I h 241 4 n) 243 (rg_ (fl_ (fl_ (hp_I h 243) g0_ 4890) (fun _ => 9) 100) 100 (100 + k) 5)) := hm
      refine v_iload_n dX4_begins_84 rfl rfl ?_
      refine v_bipush (v := nI 9) dX4_begins_85 (by decide) ?_
      refine v_icmp_ge (tgt := 106) dX4_begins_87 (by decide) (fun b87 => ?_) (fun b87 => ?_)
      · skip
        rw [nI_leI (by decide) (by omega)] at b87
        have hk : k = 9 := by omega
        subst hk
        clear IH
        refine v_iconst (v := 0) dX4_begins_106 (by decide) ?_
        refine v_istore_n dX4_begins_107 rfl (by decide) ?_
        refine v_loc2 (by repeat' (first | exact trivial | refine And.intro ?_ ?_ | exact rfl)) (v_lp2 (fun (k : Nat) (hh : AH) => 3 - k) (fun (k : Nat) (hh : AH) => k ≤ 3 ∧ hh = up_IA (up_IA (up_I h 241 4 n) 243 (bgA_ (hp_I h 243))) 244 (fl_ (hp_I h 244) (fun _ => 0) k)) (fun (k : Nat) (hh : AH) => [(0, .ref 241), (1, .int n), (2, .int (nI k))]) (fun (k : Nat) (hh : AH) => hh) ?_ 0 _ ⟨by omega, by rw [fl_0, show hp_I h 244 = hp_I (up_IA (up_I h 241 4 n) 243 (bgA_ (hp_I h 243))) 244 from by rw [hp_IAn _ _ _ _ (by decide), II_n (by decide)], IA_id]; rfl⟩)
        intro k hh hI IH
        obtain ⟨hI, rfl⟩ := hI
        have hm : MI (up_IA (up_IA (up_I h 241 4 n) 243 (bgA_ (hp_I h 243))) 244 (fl_ (hp_I h 244) (fun _ => 0) k)) := hm
        refine v_iload_n dX4_begins_108 rfl rfl ?_
        refine v_iconst (v := nI 3) dX4_begins_109 (by decide) ?_
        refine v_icmp_ge (tgt := 126) dX4_begins_110 (by decide) (fun b110 => ?_) (fun b110 => ?_)
        · skip
          rw [nI_leI (by decide) (by omega)] at b110
          have hk : k = 3 := by omega
          subst hk
          clear IH
          refine v_aload_n dX4_begins_126 rfl rfl ?_
          refine v_iconst (v := 0) dX4_begins_127 (by decide) ?_
          refine v_putI fX4_119 (.inl rfl) dX4_begins_128 (mK_obj hm) ?_
          refine v_aload_n dX4_begins_131 rfl rfl ?_
          refine v_iconst (v := 0) dX4_begins_132 (by decide) ?_
          refine v_putI fX4_122 (.inl rfl) dX4_begins_133 (mK_obj hm) ?_
          refine v_aload_n dX4_begins_136 rfl rfl ?_
          refine v_iconst (v := 0) dX4_begins_137 (by decide) ?_
          refine v_putI fX4_125 (.inl rfl) dX4_begins_138 (mK_obj hm) ?_
          exact v_retv dX4_begins_141 trivial ⟨rfl, rfl⟩
        · skip
          rw [nI_leI (by decide) (by omega)] at b110
          have hk : k < 3 := by omega
          refine v_aload_n dX4_begins_113 rfl rfl ?_
          refine v_getR fX4_20 dX4_begins_114 (mK_obj hm) (mR_hasImage hm) ?_ fcA_Z
          refine v_iload_n dX4_begins_117 rfl rfl ?_
          refine v_iconst (v := 0) dX4_begins_118 (by decide) ?_
          refine v_zast dX4_begins_119 (mK_hasImage hm) rfl (by first | assumption | omega) (by first | exact Or.inl rfl | exact Or.inr rfl | exact b2i_01 | assumption) ?_
          refine v_iinc dX4_begins_120 rfl (by first | with_reducible exact nI_inc _ | exact rfl) (by decide) ?_
          refine v_goto (tgt := 108) dX4_begins_123 (by decide) ?_
          refine v_loc2 (by repeat' (first | exact trivial | refine And.intro ?_ ?_ | exact rfl)) (IH (k + 1) _ ⟨by omega, ?_⟩ (by omega))
          rw [I_IA, fl_s _ (fun _ => 0)]
      · skip
        rw [nI_leI (by decide) (by omega)] at b87
        have hk : k < 9 := by omega
        refine v_aload_n dX4_begins_90 rfl rfl ?_
        refine v_getR fX4_17 dX4_begins_91 (mK_obj hm) (mR_all hm) ?_ fcA_I
        refine v_bipush (v := 100) dX4_begins_94 (by decide) ?_
        refine v_iload_n dX4_begins_96 rfl rfl ?_
        refine v_iadd dX4_begins_97 ?_
        refine v_iconst (v := 5) dX4_begins_98 (by decide) ?_
        refine v_iast dX4_begins_99 (mK_all hm) (ix_add (ix_lit _) rfl) (by first | assumption | omega) ?_
        refine v_iinc dX4_begins_100 rfl (by first | with_reducible exact nI_inc _ | exact rfl) (by decide) ?_
        refine v_goto (tgt := 84) dX4_begins_103 (by decide) ?_
        refine v_loc2 (by repeat' (first | exact trivial | refine And.intro ?_ ?_ | exact rfl)) (IH (k + 1) _ ⟨by omega, ?_⟩ (by omega))
        rw [I_IA, rg_s _ _ _ _ (by omega)]
        rfl
    · skip
      rw [nI_leI (by decide) (by omega)] at b63
      have hk : k < 100 := by omega
      refine v_aload_n dX4_begins_66 rfl rfl ?_
      refine v_getR fX4_17 dX4_begins_67 (mK_obj hm) (mR_all hm) ?_ fcA_I
      refine v_iconst (v := 0) dX4_begins_70 (by decide) ?_
      refine v_iload_n dX4_begins_71 rfl rfl ?_
      refine v_iadd dX4_begins_72 ?_
      refine v_bipush (v := 9) dX4_begins_73 (by decide) ?_
      refine v_iast dX4_begins_75 (mK_all hm) (ix_add (ix_lit _) rfl) (by first | assumption | omega) ?_
      refine v_iinc dX4_begins_76 rfl (by first | with_reducible exact nI_inc _ | exact rfl) (by decide) ?_
      refine v_goto (tgt := 60) dX4_begins_79 (by decide) ?_
      refine v_loc2 (by repeat' (first | exact trivial | refine And.intro ?_ ?_ | exact rfl)) (IH (k + 1) _ ⟨by omega, ?_⟩ (by omega))
      rw [I_IA, show 0 + k = k from Nat.zero_add k, fl_s _ (fun _ => 9)]
  · skip
    rw [nI_leI (by decide) (by omega)] at b11
    have hk : k < 4890 := by omega
    refine v_aload_n dX4_begins_14 rfl rfl ?_
    refine v_getR fX4_17 dX4_begins_15 (mK_obj hm) (mR_all hm) ?_ fcA_I
    refine v_iload_n dX4_begins_18 rfl rfl ?_
    refine v_join 51 (fun z => z = g0_ k) (fun z hz => ?_) (fun hj51 => ?_)
    · skip
      subst hz
      refine v_iast dX4_begins_51 (mK_all hm) rfl (by first | assumption | omega) ?_
      refine v_iinc dX4_begins_52 rfl (by first | with_reducible exact nI_inc _ | exact rfl) (by decide) ?_
      refine v_goto (tgt := 7) dX4_begins_55 (by decide) ?_
      refine v_loc2 (by repeat' (first | exact trivial | refine And.intro ?_ ?_ | exact rfl)) (IH (k + 1) _ ⟨by omega, ?_⟩ (by omega))
      rw [I_IA, fl_s]
    · skip
      refine v_iload_n dX4_begins_19 rfl rfl ?_
      refine v_bipush (v := nI 120) dX4_begins_20 (by decide) ?_
      refine v_icmp_lt (tgt := 32) dX4_begins_22 (by decide) (fun b22 => ?_) (fun b22 => ?_)
      · skip
        refine v_iload_n dX4_begins_32 rfl rfl ?_
        refine v_sipush (v := nI 1070) dX4_begins_33 (by decide) ?_
        refine v_icmp_lt (tgt := 50) dX4_begins_36 (by decide) (fun b36 => ?_) (fun b36 => ?_)
        · skip
          refine v_iconst (v := 0) dX4_begins_50 (by decide) ?_
          exact hj51 _ (by simp (disch := omega) only [nI_eq, nI_ltI, nI_leI, nI_m1, m1_nI, b2i_0, b2i_n0] at *; unfold g0_; first | exact (if_pos (by omega)).symm | exact (if_neg (by omega)).symm)
        · skip
          refine v_iload_n dX4_begins_39 rfl rfl ?_
          refine v_sipush (v := nI 4670) dX4_begins_40 (by decide) ?_
          refine v_icmp_ge (tgt := 50) dX4_begins_43 (by decide) (fun b43 => ?_) (fun b43 => ?_)
          · skip
            refine v_iconst (v := 0) dX4_begins_50 (by decide) ?_
            exact hj51 _ (by simp (disch := omega) only [nI_eq, nI_ltI, nI_leI, nI_m1, m1_nI, b2i_0, b2i_n0] at *; unfold g0_; first | exact (if_pos (by omega)).symm | exact (if_neg (by omega)).symm)
          · skip
            refine v_iconst (v := (-1)) dX4_begins_46 (by decide) ?_
            refine v_goto (tgt := 51) dX4_begins_47 (by decide) ?_
            exact hj51 _ (by simp (disch := omega) only [nI_eq, nI_ltI, nI_leI, nI_m1, m1_nI, b2i_0, b2i_n0] at *; unfold g0_; first | exact (if_pos (by omega)).symm | exact (if_neg (by omega)).symm)
      · skip
        refine v_iload_n dX4_begins_25 rfl rfl ?_
        refine v_sipush (v := nI 1020) dX4_begins_26 (by decide) ?_
        refine v_icmp_lt (tgt := 46) dX4_begins_29 (by decide) (fun b29 => ?_) (fun b29 => ?_)
        · skip
          refine v_iconst (v := (-1)) dX4_begins_46 (by decide) ?_
          refine v_goto (tgt := 51) dX4_begins_47 (by decide) ?_
          exact hj51 _ (by simp (disch := omega) only [nI_eq, nI_ltI, nI_leI, nI_m1, m1_nI, b2i_0, b2i_n0] at *; unfold g0_; first | exact (if_pos (by omega)).symm | exact (if_neg (by omega)).symm)
        · skip
          refine v_iload_n dX4_begins_32 rfl rfl ?_
          refine v_sipush (v := nI 1070) dX4_begins_33 (by decide) ?_
          refine v_icmp_lt (tgt := 50) dX4_begins_36 (by decide) (fun b36 => ?_) (fun b36 => ?_)
          · skip
            refine v_iconst (v := 0) dX4_begins_50 (by decide) ?_
            exact hj51 _ (by simp (disch := omega) only [nI_eq, nI_ltI, nI_leI, nI_m1, m1_nI, b2i_0, b2i_n0] at *; unfold g0_; first | exact (if_pos (by omega)).symm | exact (if_neg (by omega)).symm)
          · skip
            refine v_iload_n dX4_begins_39 rfl rfl ?_
            refine v_sipush (v := nI 4670) dX4_begins_40 (by decide) ?_
            refine v_icmp_ge (tgt := 50) dX4_begins_43 (by decide) (fun b43 => ?_) (fun b43 => ?_)
            · skip
              refine v_iconst (v := 0) dX4_begins_50 (by decide) ?_
              exact hj51 _ (by simp (disch := omega) only [nI_eq, nI_ltI, nI_leI, nI_m1, m1_nI, b2i_0, b2i_n0] at *; unfold g0_; first | exact (if_pos (by omega)).symm | exact (if_neg (by omega)).symm)
            · skip
              refine v_iconst (v := (-1)) dX4_begins_46 (by decide) ?_
              refine v_goto (tgt := 51) dX4_begins_47 (by decide) ?_
              exact hj51 _ (by simp (disch := omega) only [nI_eq, nI_ltI, nI_leI, nI_m1, m1_nI, b2i_0, b2i_n0] at *; unfold g0_; first | exact (if_pos (by omega)).symm | exact (if_neg (by omega)).symm)

theorem c_X4_room {G : Gv} {h : AH} (hm : MI h) (n : Int32) : Ctr G 2 yX4_room cX4_room 2 (some .boolean) [.ref 241, .int n] h 0 0 (Pr (sp_room h n)) := by
  refine ctr_of (own := RX4) (nm := "room") (by decide) (Nat.le_of_ble_eq_true rfl) ?_
  refine v_aload_n dX4_room_0 rfl rfl ?_
  refine v_iconst (v := 0) dX4_room_1 (by decide) ?_
  refine v_thr fX4_1 dX4_room_2 hm ?_
  have hm := MI_th hm
  refine v_iload_n dX4_room_5 rfl rfl ?_
  refine v_i2l dX4_room_6 ?_
  refine v_ldc2 (v := (3 : Int32).toInt64) q1788 dX4_room_7 (by decide) ?_
  refine v_ldc2 (v := (9 : Int32).toInt64) q1789 dX4_room_10 (by decide) ?_
  refine v_pS mtX4_within q1790 q1791 dX4_room_13 (c_X4_within _ _ _) (by decide) ?_
  refine v_if_ne (tgt := 25) dX4_room_16 (by decide) (fun b16 => ?_) (fun b16 => ?_)
  · skip
    refine v_aload_n dX4_room_25 rfl rfl ?_
    refine v_iload_n dX4_room_26 rfl rfl ?_
    refine v_zV mtX4_begins q1593 q1595 qs57 rfl (by decide) dX4_room_27 (c_X4_begins hm _) (mK_obj hm) (by decide) (fun r27 h27 q27 z27 => ?_)
    obtain ⟨rfl, rfl⟩ := q27
    refine v_iconst (v := 1) dX4_room_30 (by decide) ?_
    exact v_reti dX4_room_31 rfl (by (try simp (disch := omega) only [nI_clamp] at *); (try simp only [b2i_0, b2i_n0] at *); (try simp only [th_4, th_33] at *); unfold sp_room; (try simp (disch := omega) only [nI_clamp]); repeat' (first | exact ⟨rfl, rfl⟩ | split | (exfalso; grind)))
  · skip
    refine v_aload_n dX4_room_19 rfl rfl ?_
    refine v_iconst (v := nI 2) dX4_room_20 (by decide) ?_
    refine v_zV mtX4_refuses q1793 q1795 qs58 rfl (by decide) dX4_room_21 (c_X4_refuses hm ?_) (mK_obj hm) (by decide) (fun r21 h21 q21 z21 => ?_)
    · decide
    obtain ⟨rfl, rfl⟩ := q21
    exact v_reti dX4_room_24 rfl (by (try simp (disch := omega) only [nI_clamp] at *); (try simp only [b2i_0, b2i_n0] at *); (try simp only [th_4, th_33] at *); unfold sp_room; (try simp (disch := omega) only [nI_clamp]); repeat' (first | exact ⟨rfl, rfl⟩ | split | (exfalso; grind)))

theorem c_X4_image {G : Gv} {h : AH} (hm : MI h) (i : Int32) : Ctr G 3 yX4_image cX4_image 3 (some .boolean) [.ref 241, .int i] h 0 0 (Pr (sp_image h i)) := by
  refine ctr_of (own := RX4) (nm := "image") (by decide) (Nat.le_of_ble_eq_true rfl) ?_
  refine v_aload_n dX4_image_0 rfl rfl ?_
  refine v_iconst (v := 0) dX4_image_1 (by decide) ?_
  refine v_thr fX4_1 dX4_image_2 hm ?_
  have hm := MI_th hm
  refine v_iload_n dX4_image_5 rfl rfl ?_
  refine v_i2l dX4_image_6 ?_
  refine v_lconst (v := (0 : Int32).toInt64) dX4_image_7 (by decide) ?_
  refine v_ldc2 (v := (2 : Int32).toInt64) q1919 dX4_image_8 (by decide) ?_
  refine v_pS mtX4_within q1790 q1791 dX4_image_11 (c_X4_within _ _ _) (by decide) ?_
  refine v_if_ne (tgt := 23) dX4_image_14 (by decide) (fun b14 => ?_) (fun b14 => ?_)
  · skip
    have hok : 0 ≤ i ∧ i ≤ 2 := (by (try simp only [b2i_0, b2i_n0] at *); (try simp only [th_4, th_33] at *); grind)
    obtain ⟨n, hn, rfl⟩ := nI_rngE (n := 2) hok (by decide)
    refine v_iconst (v := 0) dX4_image_23 (by decide) ?_
    refine v_istore_n dX4_image_24 rfl (by decide) ?_
    refine v_loc2 (by repeat' (first | exact trivial | refine And.intro ?_ ?_ | exact rfl)) (v_lp2 (fun (k : Nat) (hh : AH) => 4890 - k) (fun (k : Nat) (hh : AH) => k ≤ 4890 ∧ hh = up_IA (th_ h) 243 (ci_ (hp_I h 243) n k)) (fun (k : Nat) (hh : AH) => [(0, .ref 241), (1, .int (nI n)), (2, .int (nI k))]) (fun (k : Nat) (hh : AH) => hh) ?_ 0 _ ⟨by omega, by rw [ci_0, ← th_33, IA_id]⟩)
    intro k hh hI IH
    obtain ⟨hI, rfl⟩ := hI
    have hm : MI (up_IA (th_ h) 243 (ci_ (hp_I h 243) n k)) := hm
    refine v_iload_n dX4_image_25 rfl rfl ?_
    refine v_sipush (v := nI 4890) dX4_image_26 (by decide) ?_
    refine v_icmp_ge (tgt := 58) dX4_image_29 (by decide) (fun b29 => ?_) (fun b29 => ?_)
    · skip
      rw [nI_leI (by decide) (by omega)] at b29
      have hk : k = 4890 := by omega
      subst hk
      clear IH
      refine v_aload_n dX4_image_58 rfl rfl ?_
      refine v_getR fX4_20 dX4_image_59 (mK_obj hm) (mR_hasImage hm) ?_ fcA_Z
      refine v_iload_n dX4_image_62 rfl rfl ?_
      refine v_iconst (v := 1) dX4_image_63 (by decide) ?_
      refine v_zast dX4_image_64 (mK_hasImage hm) rfl (by first | assumption | omega) (by first | exact Or.inl rfl | exact Or.inr rfl | exact b2i_01 | assumption) ?_
      refine v_iconst (v := 1) dX4_image_65 (by decide) ?_
      refine v_reti dX4_image_66 rfl ?_
      unfold sp_image
      rw [if_neg (fun z => z hok), nI_clamp (by omega)]
      exact ⟨rfl, rfl⟩
    · skip
      rw [nI_leI (by decide) (by omega)] at b29
      have hk : k < 4890 := by omega
      refine v_aload_n dX4_image_32 rfl rfl ?_
      refine v_getR fX4_17 dX4_image_33 (mK_obj hm) (mR_all hm) ?_ fcA_I
      refine v_sipush (v := 4890) dX4_image_36 (by decide) ?_
      refine v_iload_n dX4_image_39 rfl rfl ?_
      refine v_iconst (v := 1) dX4_image_40 (by decide) ?_
      refine v_iadd dX4_image_41 ?_
      refine v_imul dX4_image_42 ?_
      refine v_iload_n dX4_image_43 rfl rfl ?_
      refine v_iadd dX4_image_44 ?_
      refine v_aload_n dX4_image_45 rfl rfl ?_
      refine v_getR fX4_17 dX4_image_46 (mK_obj hm) (mR_all hm) ?_ fcA_I
      refine v_iload_n dX4_image_49 rfl rfl ?_
      refine v_iald dX4_image_50 (mK_all hm) rfl (by first | assumption | omega) ?_
      refine v_iast dX4_image_51 (mK_all hm) (ix_add (ix_mul (ix_lit _) (ix_add rfl (ix_lit _))) rfl) (by first | assumption | omega) ?_
      refine v_iinc dX4_image_52 rfl (by first | with_reducible exact nI_inc _ | exact rfl) (by decide) ?_
      refine v_goto (tgt := 25) dX4_image_55 (by decide) ?_
      refine v_loc2 (by repeat' (first | exact trivial | refine And.intro ?_ ?_ | exact rfl)) (IH (k + 1) _ ⟨by omega, ?_⟩ (by omega))
      rw [I_IA, hp_IA, ci_r hk, ci_s]
  · skip
    refine v_aload_n dX4_image_17 rfl rfl ?_
    refine v_iconst (v := nI 1) dX4_image_18 (by decide) ?_
    refine v_zV mtX4_refuses q1793 q1795 qs58 rfl (by decide) dX4_image_19 (c_X4_refuses hm ?_) (mK_obj hm) (by decide) (fun r19 h19 q19 z19 => ?_)
    · decide
    obtain ⟨rfl, rfl⟩ := q19
    exact v_reti dX4_image_22 rfl (by (try simp (disch := omega) only [nI_clamp] at *); (try simp only [b2i_0, b2i_n0] at *); (try simp only [th_4, th_33] at *); unfold sp_image; (try simp (disch := omega) only [nI_clamp]); repeat' (first | exact ⟨rfl, rfl⟩ | split | (exfalso; grind)))

theorem c_X4_restore {G : Gv} {h : AH} (hm : MI h) (i : Int32) : Ctr G 3 yX4_restore cX4_restore 3 (some .boolean) [.ref 241, .int i] h 0 0 (Pr (sp_restore h i)) := by
  refine ctr_of (own := RX4) (nm := "restore") (by decide) (Nat.le_of_ble_eq_true rfl) ?_
  refine v_aload_n dX4_restore_0 rfl rfl ?_
  refine v_iconst (v := 0) dX4_restore_1 (by decide) ?_
  refine v_thr fX4_1 dX4_restore_2 hm ?_
  have hm := MI_th hm
  refine v_iload_n dX4_restore_5 rfl rfl ?_
  refine v_i2l dX4_restore_6 ?_
  refine v_lconst (v := (0 : Int32).toInt64) dX4_restore_7 (by decide) ?_
  refine v_ldc2 (v := (2 : Int32).toInt64) q1919 dX4_restore_8 (by decide) ?_
  refine v_pS mtX4_within q1790 q1791 dX4_restore_11 (c_X4_within _ _ _) (by decide) ?_
  refine v_if_ne (tgt := 23) dX4_restore_14 (by decide) (fun b14 => ?_) (fun b14 => ?_)
  · skip
    have hok : 0 ≤ i ∧ i ≤ 2 := (by (try simp only [b2i_0, b2i_n0] at *); (try simp only [th_4, th_33] at *); grind)
    obtain ⟨n, hn, rfl⟩ := nI_rngE (n := 2) hok (by decide)
    refine v_aload_n dX4_restore_23 rfl rfl ?_
    refine v_getR fX4_20 dX4_restore_24 (mK_obj hm) (mR_hasImage hm) ?_ fcA_Z
    refine v_iload_n dX4_restore_27 rfl rfl ?_
    refine v_zald dX4_restore_28 (mK_hasImage hm) rfl (by first | assumption | omega) ?_
    refine v_if_ne (tgt := 38) dX4_restore_29 (by decide) (fun b29 => ?_) (fun b29 => ?_)
    · skip
      rw [th_A (by decide)] at b29
      refine v_iconst (v := 0) dX4_restore_38 (by decide) ?_
      refine v_istore_n dX4_restore_39 rfl (by decide) ?_
      refine v_loc2 (by repeat' (first | exact trivial | refine And.intro ?_ ?_ | exact rfl)) (v_lp2 (fun (k : Nat) (hh : AH) => 4890 - k) (fun (k : Nat) (hh : AH) => k ≤ 4890 ∧ hh = up_IA (th_ h) 243 (fl_ (hp_I h 243) (fun k => hp_I h 243 (4890 * (n + 1) + k)) k)) (fun (k : Nat) (hh : AH) => [(0, .ref 241), (1, .int (nI n)), (2, .int (nI k))]) (fun (k : Nat) (hh : AH) => hh) ?_ 0 _ ⟨by omega, by rw [fl_0, ← th_33, IA_id]⟩)
      intro k hh hI IH
      obtain ⟨hI, rfl⟩ := hI
      have hm : MI (up_IA (th_ h) 243 (fl_ (hp_I h 243) (fun k => hp_I h 243 (4890 * (n + 1) + k)) k)) := hm
      refine v_iload_n dX4_restore_40 rfl rfl ?_
      refine v_sipush (v := nI 4890) dX4_restore_41 (by decide) ?_
      refine v_icmp_ge (tgt := 73) dX4_restore_44 (by decide) (fun b44 => ?_) (fun b44 => ?_)
      · skip
        rw [nI_leI (by decide) (by omega)] at b44
        have hk : k = 4890 := by omega
        subst hk
        clear IH
        refine v_iconst (v := 1) dX4_restore_73 (by decide) ?_
        refine v_reti dX4_restore_74 rfl ?_
        unfold sp_restore
        rw [if_neg (fun z => z hok), nI_clamp (by omega), if_neg b29]
        exact ⟨rfl, rfl⟩
      · skip
        rw [nI_leI (by decide) (by omega)] at b44
        have hk : k < 4890 := by omega
        refine v_aload_n dX4_restore_47 rfl rfl ?_
        refine v_getR fX4_17 dX4_restore_48 (mK_obj hm) (mR_all hm) ?_ fcA_I
        refine v_iload_n dX4_restore_51 rfl rfl ?_
        refine v_aload_n dX4_restore_52 rfl rfl ?_
        refine v_getR fX4_17 dX4_restore_53 (mK_obj hm) (mR_all hm) ?_ fcA_I
        refine v_sipush (v := 4890) dX4_restore_56 (by decide) ?_
        refine v_iload_n dX4_restore_59 rfl rfl ?_
        refine v_iconst (v := 1) dX4_restore_60 (by decide) ?_
        refine v_iadd dX4_restore_61 ?_
        refine v_imul dX4_restore_62 ?_
        refine v_iload_n dX4_restore_63 rfl rfl ?_
        refine v_iadd dX4_restore_64 ?_
        refine v_iald dX4_restore_65 (mK_all hm) (ix_add (ix_mul (ix_lit _) (ix_add rfl (ix_lit _))) rfl) (by first | assumption | omega) ?_
        refine v_iast dX4_restore_66 (mK_all hm) rfl (by first | assumption | omega) ?_
        refine v_iinc dX4_restore_67 rfl (by first | with_reducible exact nI_inc _ | exact rfl) (by decide) ?_
        refine v_goto (tgt := 40) dX4_restore_70 (by decide) ?_
        refine v_loc2 (by repeat' (first | exact trivial | refine And.intro ?_ ?_ | exact rfl)) (IH (k + 1) _ ⟨by omega, ?_⟩ (by omega))
        rw [I_IA, hp_IA, fl_r (by omega), fl_s _ (fun k => hp_I h 243 (4890 * (n + 1) + k))]
    · skip
      rw [th_A (by decide)] at b29
      refine v_aload_n dX4_restore_32 rfl rfl ?_
      refine v_iconst (v := nI 5) dX4_restore_33 (by decide) ?_
      refine v_zV mtX4_refuses q1793 q1795 qs58 rfl (by decide) dX4_restore_34 (c_X4_refuses hm ?_) (mK_obj hm) (by decide) (fun r34 h34 q34 z34 => ?_)
      · decide
      obtain ⟨rfl, rfl⟩ := q34
      refine v_reti dX4_restore_37 rfl ?_
      unfold sp_restore
      rw [if_neg (fun z => z hok), nI_clamp (by omega), if_pos b29]
      exact ⟨rfl, rfl⟩
  · skip
    refine v_aload_n dX4_restore_17 rfl rfl ?_
    refine v_iconst (v := nI 1) dX4_restore_18 (by decide) ?_
    refine v_zV mtX4_refuses q1793 q1795 qs58 rfl (by decide) dX4_restore_19 (c_X4_refuses hm ?_) (mK_obj hm) (by decide) (fun r19 h19 q19 z19 => ?_)
    · decide
    obtain ⟨rfl, rfl⟩ := q19
    exact v_reti dX4_restore_22 rfl (by (try simp (disch := omega) only [nI_clamp] at *); (try simp only [b2i_0, b2i_n0] at *); (try simp only [th_4, th_33] at *); unfold sp_restore; (try simp (disch := omega) only [nI_clamp]); repeat' (first | exact ⟨rfl, rfl⟩ | split | (exfalso; grind)))

theorem c_X4_where {G : Gv} {h : AH} (hm : MI h) {sN : Nat} (hv : sv_ok (hp_I h 243) sN) (t s : Int32) : Ctr G 3 yX4_where cX4_where 3 (some .int) [.ref 241, .int t, .int s] h 0 0 (Pr (sp_where h t s)) := by
  refine ctr_of (own := RX4) (nm := "where") (by decide) (Nat.le_of_ble_eq_true rfl) ?_
  refine v_aload_n dX4_where_0 rfl rfl ?_
  refine v_iconst (v := 0) dX4_where_1 (by decide) ?_
  refine v_thr fX4_1 dX4_where_2 hm ?_
  have hm := MI_th hm
  refine v_cut 27 ((0 ≤ t ∧ t < hp_I h 243 4881) ∧ (s = -1 ∨ (0 ≤ s ∧ s ≤ 99))) (fun hz27 => ?_) (fun hc27 => ?_)
  · skip
    obtain ⟨hL1, hL2⟩ := sv_laid hv
    have h9 := hz27.1
    rw [hL2] at h9
    obtain ⟨n, hn, rfl⟩ := nI_rng h9 (by omega)
    have hv9 : sv_ok (hp_I (th_ h) 243) sN := by rw [th_33]; exact hv
    refine v_aload_n dX4_where_27 rfl rfl ?_
    refine v_iload_n dX4_where_28 rfl rfl ?_
    refine v_iload_n dX4_where_29 rfl rfl ?_
    refine v_iconst (v := 1) dX4_where_30 (by decide) ?_
    refine v_iadd dX4_where_31 ?_
    refine v_pV mtX4_ahead q1874 q1876 qs69 rfl (by decide) dX4_where_32 (c_X4_ahead hm hv9 ?_ _) (mK_obj hm) (by decide) ?_
    · omega
    rw [th_33]
    refine v_reti dX4_where_35 rfl ?_
    unfold sp_where
    rw [if_pos hz27, nI_clamp (by omega)]
    exact ⟨rfl, rfl⟩
  · skip
    refine v_cut 25 (¬ ((0 ≤ t ∧ t < hp_I h 243 4881) ∧ (s = -1 ∨ (0 ≤ s ∧ s ≤ 99)))) (fun hz25 => ?_) (fun hc25 => ?_)
    · skip
      refine v_iconst (v := (-1)) dX4_where_25 (by decide) ?_
      refine v_reti dX4_where_26 rfl ?_
      unfold sp_where
      rw [if_neg hz25]
      exact ⟨rfl, rfl⟩
    · skip
      refine v_aload_n dX4_where_5 rfl rfl ?_
      refine v_iload_n dX4_where_6 rfl rfl ?_
      refine v_pV mtX4_isThing q1851 q1853 qs64 rfl (by decide) dX4_where_7 (c_X4_isThing hm _) (mK_obj hm) (by decide) ?_
      refine v_if_eq (tgt := 25) dX4_where_10 (by decide) (fun b10 => ?_) (fun b10 => ?_)
      · skip
        exact hc25 (by (try simp only [b2i_0, b2i_n0] at *); (try simp only [th_4, th_33] at *); grind)
      · skip
        refine v_iload_n dX4_where_13 rfl rfl ?_
        refine v_iconst (v := (-1)) dX4_where_14 (by decide) ?_
        refine v_icmp_eq (tgt := 27) dX4_where_15 (by decide) (fun b15 => ?_) (fun b15 => ?_)
        · skip
          exact hc27 (by (try simp only [b2i_0, b2i_n0] at *); (try simp only [th_4, th_33] at *); grind)
        · skip
          refine v_iload_n dX4_where_18 rfl rfl ?_
          refine v_pS mtX4_isSecond q1812 q1813 dX4_where_19 (c_X4_isSecond _) (by decide) ?_
          refine v_if_ne (tgt := 27) dX4_where_22 (by decide) (fun b22 => ?_) (fun b22 => ?_)
          · skip
            exact hc27 (by (try simp only [b2i_0, b2i_n0] at *); (try simp only [th_4, th_33] at *); grind)
          · skip
            exact hc25 (by (try simp only [b2i_0, b2i_n0] at *); (try simp only [th_4, th_33] at *); grind)

theorem c_X4_status {G : Gv} {h : AH} (hm : MI h) (x : Int32) : Ctr G 2 yX4_status cX4_status 2 (some .int) [.ref 241, .int x] h 0 0 (Pr (sp_status h x)) := by
  refine ctr_of (own := RX4) (nm := "status") (by decide) (Nat.le_of_ble_eq_true rfl) ?_
  refine v_aload_n dX4_status_0 rfl rfl ?_
  refine v_iconst (v := 0) dX4_status_1 (by decide) ?_
  refine v_thr fX4_1 dX4_status_2 hm ?_
  have hm := MI_th hm
  refine v_iload_n dX4_status_5 rfl rfl ?_
  refine v_i2l dX4_status_6 ?_
  refine v_lconst (v := (1 : Int32).toInt64) dX4_status_7 (by decide) ?_
  refine v_ldc2 (v := (5 : Int32).toInt64) q1902 dX4_status_8 (by decide) ?_
  refine v_pS mtX4_within q1790 q1791 dX4_status_11 (c_X4_within _ _ _) (by decide) ?_
  refine v_if_eq (tgt := 26) dX4_status_14 (by decide) (fun b14 => ?_) (fun b14 => ?_)
  · skip
    refine v_iconst (v := (-1)) dX4_status_26 (by decide) ?_
    refine v_reti dX4_status_27 rfl ?_
    unfold sp_status
    first | (rw [if_pos hok, nI_clamp (by omega)]; refine ⟨?_, rfl⟩; rw [th_A (by decide)]) | (rw [if_neg (b2i_0.mp b14)]; exact ⟨rfl, rfl⟩)
  · skip
    have hok : 1 ≤ x ∧ x ≤ 5 := (by (try simp only [b2i_0, b2i_n0] at *); (try simp only [th_4, th_33] at *); grind)
    obtain ⟨n, hn, rfl⟩ := nI_rngE (x := x) (n := 5) ⟨by grind, hok.2⟩ (by decide)
    refine v_aload_n dX4_status_17 rfl rfl ?_
    refine v_getR fX4_7 dX4_status_18 (mK_obj hm) (mR_refused hm) ?_ fcA_I
    refine v_iload_n dX4_status_21 rfl rfl ?_
    refine v_iald dX4_status_22 (mK_refused hm) rfl (by first | assumption | omega) ?_
    refine v_goto (tgt := 27) dX4_status_23 (by decide) ?_
    refine v_reti dX4_status_27 rfl ?_
    unfold sp_status
    first | (rw [if_pos hok, nI_clamp (by omega)]; refine ⟨?_, rfl⟩; rw [th_A (by decide)]) | (rw [if_neg (b2i_0.mp b14)]; exact ⟨rfl, rfl⟩)

theorem c_X4_fault {G : Gv} {h : AH} (hm : MI h) (x : Int32) : Ctr G 2 yX4_fault cX4_fault 2 (some .int) [.ref 241, .int x] h 0 0 (Pr (sp_fault h x)) := by
  refine ctr_of (own := RX4) (nm := "fault") (by decide) (Nat.le_of_ble_eq_true rfl) ?_
  refine v_aload_n dX4_fault_0 rfl rfl ?_
  refine v_iconst (v := 0) dX4_fault_1 (by decide) ?_
  refine v_thr fX4_1 dX4_fault_2 hm ?_
  have hm := MI_th hm
  refine v_iload_n dX4_fault_5 rfl rfl ?_
  refine v_if_ne (tgt := 16) dX4_fault_6 (by decide) (fun b6 => ?_) (fun b6 => ?_)
  · skip
    refine v_iload_n dX4_fault_16 rfl rfl ?_
    refine v_iconst (v := 1) dX4_fault_17 (by decide) ?_
    refine v_icmp_ne (tgt := 28) dX4_fault_18 (by decide) (fun b18 => ?_) (fun b18 => ?_)
    · skip
      refine v_iconst (v := (-1)) dX4_fault_28 (by decide) ?_
      refine v_reti dX4_fault_29 rfl ?_
      unfold sp_fault
      (repeat' (first | exact ⟨rfl, rfl⟩ | split | (exfalso; grind)))
    · skip
      refine v_aload_n dX4_fault_21 rfl rfl ?_
      refine v_getI fX4_70 dX4_fault_22 (mK_obj hm) ?_
      refine v_goto (tgt := 29) dX4_fault_25 (by decide) ?_
      refine v_reti dX4_fault_29 rfl ?_
      unfold sp_fault
      (repeat' (first | exact ⟨rfl, rfl⟩ | split | (exfalso; grind)))
  · skip
    refine v_aload_n dX4_fault_9 rfl rfl ?_
    refine v_getI fX4_294 dX4_fault_10 (mK_obj hm) ?_
    refine v_goto (tgt := 29) dX4_fault_13 (by decide) ?_
    refine v_reti dX4_fault_29 rfl ?_
    unfold sp_fault
    (repeat' (first | exact ⟨rfl, rfl⟩ | split | (exfalso; grind)))

theorem c_X4_trial {G : Gv} {h : AH} (hm : MI h) {k : Nat} (hk : k ≤ 9) (hT : hp_I h 241 56 = nI k) (n x : Int32) : Ctr G 2 yX4_trial cX4_trial 3 (some .int) [.ref 241, .int n, .int x] h 0 0 (Pr (sp_trial h n x)) := by
  refine ctr_of (own := RX4) (nm := "trial") (by decide) (Nat.le_of_ble_eq_true rfl) ?_
  refine v_aload_n dX4_trial_0 rfl rfl ?_
  refine v_iconst (v := 0) dX4_trial_1 (by decide) ?_
  refine v_thr fX4_1 dX4_trial_2 hm ?_
  have hm := MI_th hm
  refine v_cut 38 ((2 ≤ n ∧ n ≤ 20) ∧ (1 ≤ x ∧ x ≤ n - 1)) (fun hz38 => ?_) (fun hc38 => ?_)
  · skip
    refine v_aload_n dX4_trial_38 rfl rfl ?_
    refine v_getI fX4_125 dX4_trial_39 (mK_obj hm) ?_
    refine v_bipush (v := 9) dX4_trial_42 (by decide) ?_
    refine v_icmp_ne (tgt := 53) dX4_trial_44 (by decide) (fun b44 => ?_) (fun b44 => ?_)
    · skip
      have hk9 : k ≠ 9 := fun z => b44 (by rw [z] at hT; exact hT)
      have hk9 : k < 9 := by omega
      refine v_aload_n dX4_trial_53 rfl rfl ?_
      refine v_getR fX4_106 dX4_trial_54 (mK_obj hm) (mR_answers hm) ?_ fcA_I
      refine v_aload_n dX4_trial_57 rfl rfl ?_
      refine v_getI fX4_125 dX4_trial_58 (mK_obj hm) ?_
      rw [show hp_I (th_ h) 241 56 = nI k from hT]
      refine v_iload_n dX4_trial_61 rfl rfl ?_
      refine v_iast dX4_trial_62 (mK_answers hm) rfl (by first | assumption | omega) ?_
      refine v_aload_n dX4_trial_63 rfl rfl ?_
      refine v_getR fX4_109 dX4_trial_64 (mK_obj hm) (mR_hitsOf hm) ?_ fcA_I
      refine v_aload_n dX4_trial_67 rfl rfl ?_
      refine v_getI fX4_125 dX4_trial_68 (mK_obj hm) ?_
      rw [show hp_I (up_I (th_ h) 270 k n) 241 56 = nI k from hT]
      refine v_iload_n dX4_trial_71 rfl rfl ?_
      refine v_iast dX4_trial_72 (mK_hitsOf hm) rfl (by first | assumption | omega) ?_
      refine v_aload_n dX4_trial_73 rfl rfl ?_
      refine v_dup dX4_trial_74 rfl ?_
      refine v_getI fX4_125 dX4_trial_75 (mK_obj hm) ?_
      rw [show hp_I (up_I (up_I (th_ h) 270 k n) 271 k x) 241 56 = nI k from hT]
      refine v_iconst (v := 1) dX4_trial_78 (by decide) ?_
      refine v_iadd dX4_trial_79 ?_
      rw [nI_1]
      refine v_putI fX4_125 (.inl rfl) dX4_trial_80 (mK_obj hm) ?_
      refine v_aload_n dX4_trial_83 rfl rfl ?_
      refine v_getI fX4_125 dX4_trial_84 (mK_obj hm) ?_
      rw [hp_I_I, if_pos ⟨rfl, rfl⟩]
      refine v_iconst (v := 1) dX4_trial_87 (by decide) ?_
      refine v_isub dX4_trial_88 ?_
      rw [nI_pred]
      refine v_reti dX4_trial_89 rfl ?_
      unfold sp_trial
      rw [if_neg (fun z => z hz38), if_neg (show ¬ hp_I h 241 56 = 9 from b44), hT, nI_clamp (by omega), nI_1]
      exact ⟨rfl, rfl⟩
    · skip
      refine v_aload_n dX4_trial_47 rfl rfl ?_
      refine v_iconst (v := nI 3) dX4_trial_48 (by decide) ?_
      refine v_zV mtX4_refuse q1827 q1829 qs61 rfl (by decide) dX4_trial_49 (c_X4_refuse hm ?_) (mK_obj hm) (by decide) (fun r49 h49 q49 z49 => ?_)
      · decide
      obtain ⟨rfl, rfl⟩ := q49
      refine v_reti dX4_trial_52 rfl ?_
      unfold sp_trial
      rw [if_neg (fun z => z hz38), if_pos (show hp_I h 241 56 = 9 from b44)]
      exact ⟨rfl, rfl⟩
  · skip
    refine v_cut 32 (¬ ((2 ≤ n ∧ n ≤ 20) ∧ (1 ≤ x ∧ x ≤ n - 1))) (fun hz32 => ?_) (fun hc32 => ?_)
    · skip
      refine v_aload_n dX4_trial_32 rfl rfl ?_
      refine v_iconst (v := nI 2) dX4_trial_33 (by decide) ?_
      refine v_zV mtX4_refuse q1827 q1829 qs61 rfl (by decide) dX4_trial_34 (c_X4_refuse hm ?_) (mK_obj hm) (by decide) (fun r34 h34 q34 z34 => ?_)
      · decide
      obtain ⟨rfl, rfl⟩ := q34
      refine v_reti dX4_trial_37 rfl ?_
      unfold sp_trial
      rw [if_pos hz32]
      exact ⟨rfl, rfl⟩
    · skip
      refine v_iload_n dX4_trial_5 rfl rfl ?_
      refine v_i2l dX4_trial_6 ?_
      refine v_ldc2 (v := (2 : Int32).toInt64) q1919 dX4_trial_7 (by decide) ?_
      refine v_ldc2 (v := (20 : Int32).toInt64) q2186 dX4_trial_10 (by decide) ?_
      refine v_pS mtX4_within q1790 q1791 dX4_trial_13 (c_X4_within _ _ _) (by decide) ?_
      refine v_if_eq (tgt := 32) dX4_trial_16 (by decide) (fun b16 => ?_) (fun b16 => ?_)
      · skip
        exact hc32 (by (try simp only [b2i_0, b2i_n0] at *); (try simp only [th_4, th_33] at *); grind)
      · skip
        refine v_iload_n dX4_trial_19 rfl rfl ?_
        refine v_i2l dX4_trial_20 ?_
        refine v_lconst (v := (1 : Int32).toInt64) dX4_trial_21 (by decide) ?_
        refine v_iload_n dX4_trial_22 rfl rfl ?_
        refine v_iconst (v := 1) dX4_trial_23 (by decide) ?_
        refine v_isub dX4_trial_24 ?_
        refine v_i2l dX4_trial_25 ?_
        refine v_pS mtX4_within q1790 q1791 dX4_trial_26 (c_X4_within _ _ _) (by decide) ?_
        refine v_if_ne (tgt := 38) dX4_trial_29 (by decide) (fun b29 => ?_) (fun b29 => ?_)
        · skip
          exact hc38 (by (try simp only [b2i_0, b2i_n0] at *); (try simp only [th_4, th_33] at *); grind)
        · skip
          exact hc32 (by (try simp only [b2i_0, b2i_n0] at *); (try simp only [th_4, th_33] at *); grind)

theorem c_X4_count {G : Gv} {h : AH} (hm : MI h) (x : Int32) : Ctr G 1 yX4_count cX4_count 2 (some .int) [.ref 241, .int x] h 0 0 (Pr (sp_count h x)) := by
  refine ctr_of (own := RX4) (nm := "count") (by decide) (Nat.le_of_ble_eq_true rfl) ?_
  refine v_aload_n dX4_count_0 rfl rfl ?_
  refine v_iconst (v := 0) dX4_count_1 (by decide) ?_
  refine v_thr fX4_1 dX4_count_2 hm ?_
  have hm := MI_th hm
  refine v_iload_n dX4_count_5 rfl rfl ?_
  by_cases hsw : 0 ≤ x ∧ x ≤ nI 10
  · skip
    obtain ⟨ksw, hk, rfl⟩ := nI_rngE hsw (by decide)
    rcases (show ksw = 0 ∨ ksw = 1 ∨ ksw = 2 ∨ ksw = 3 ∨ ksw = 4 ∨ ksw = 5 ∨ ksw = 6 ∨ ksw = 7 ∨ ksw = 8 ∨ ksw = 9 ∨ ksw = 10 by omega) with rfl | rfl | rfl | rfl | rfl | rfl | rfl | rfl | rfl | rfl | rfl
    · refine v_tableIn (tgt := 64) (off := 58) dX4_count_6 (by decide) (by decide) (by decide) (by decide) ?_
      refine v_aload_n dX4_count_64 rfl rfl ?_
      refine v_getI fX4_24 dX4_count_65 (mK_obj hm) ?_
      refine v_reti dX4_count_68 rfl ?_
      unfold sp_count
      first | (refine ⟨?_, rfl⟩; first | rfl | (rw [th_33]; rfl)) | skip
    · refine v_tableIn (tgt := 69) (off := 63) dX4_count_6 (by decide) (by decide) (by decide) (by decide) ?_
      refine v_aload_n dX4_count_69 rfl rfl ?_
      refine v_getR fX4_17 dX4_count_70 (mK_obj hm) (mR_all hm) ?_ fcA_I
      refine v_sipush (v := 4880) dX4_count_73 (by decide) ?_
      refine v_iald dX4_count_76 (mK_all hm) (ix_lit _) (by first | assumption | omega) ?_
      refine v_reti dX4_count_77 rfl ?_
      unfold sp_count
      first | (refine ⟨?_, rfl⟩; first | rfl | (rw [th_33]; rfl)) | skip
    · refine v_tableIn (tgt := 78) (off := 72) dX4_count_6 (by decide) (by decide) (by decide) (by decide) ?_
      refine v_aload_n dX4_count_78 rfl rfl ?_
      refine v_getR fX4_17 dX4_count_79 (mK_obj hm) (mR_all hm) ?_ fcA_I
      refine v_sipush (v := 4881) dX4_count_82 (by decide) ?_
      refine v_iald dX4_count_85 (mK_all hm) (ix_lit _) (by first | assumption | omega) ?_
      refine v_reti dX4_count_86 rfl ?_
      unfold sp_count
      first | (refine ⟨?_, rfl⟩; first | rfl | (rw [th_33]; rfl)) | skip
    · refine v_tableIn (tgt := 87) (off := 81) dX4_count_6 (by decide) (by decide) (by decide) (by decide) ?_
      refine v_aload_n dX4_count_87 rfl rfl ?_
      refine v_getR fX4_17 dX4_count_88 (mK_obj hm) (mR_all hm) ?_ fcA_I
      refine v_sipush (v := 4882) dX4_count_91 (by decide) ?_
      refine v_iald dX4_count_94 (mK_all hm) (ix_lit _) (by first | assumption | omega) ?_
      refine v_reti dX4_count_95 rfl ?_
      unfold sp_count
      first | (refine ⟨?_, rfl⟩; first | rfl | (rw [th_33]; rfl)) | skip
    · refine v_tableIn (tgt := 96) (off := 90) dX4_count_6 (by decide) (by decide) (by decide) (by decide) ?_
      refine v_aload_n dX4_count_96 rfl rfl ?_
      refine v_getI fX4_297 dX4_count_97 (mK_obj hm) ?_
      refine v_reti dX4_count_100 rfl ?_
      unfold sp_count
      first | (refine ⟨?_, rfl⟩; first | rfl | (rw [th_33]; rfl)) | skip
    · refine v_tableIn (tgt := 101) (off := 95) dX4_count_6 (by decide) (by decide) (by decide) (by decide) ?_
      refine v_aload_n dX4_count_101 rfl rfl ?_
      refine v_getI fX4_300 dX4_count_102 (mK_obj hm) ?_
      refine v_reti dX4_count_105 rfl ?_
      unfold sp_count
      first | (refine ⟨?_, rfl⟩; first | rfl | (rw [th_33]; rfl)) | skip
    · refine v_tableIn (tgt := 106) (off := 100) dX4_count_6 (by decide) (by decide) (by decide) (by decide) ?_
      refine v_aload_n dX4_count_106 rfl rfl ?_
      refine v_getI fX4_303 dX4_count_107 (mK_obj hm) ?_
      refine v_reti dX4_count_110 rfl ?_
      unfold sp_count
      first | (refine ⟨?_, rfl⟩; first | rfl | (rw [th_33]; rfl)) | skip
    · refine v_tableIn (tgt := 111) (off := 105) dX4_count_6 (by decide) (by decide) (by decide) (by decide) ?_
      refine v_aload_n dX4_count_111 rfl rfl ?_
      refine v_getI fX4_119 dX4_count_112 (mK_obj hm) ?_
      refine v_reti dX4_count_115 rfl ?_
      unfold sp_count
      first | (refine ⟨?_, rfl⟩; first | rfl | (rw [th_33]; rfl)) | skip
    · refine v_tableIn (tgt := 116) (off := 110) dX4_count_6 (by decide) (by decide) (by decide) (by decide) ?_
      refine v_aload_n dX4_count_116 rfl rfl ?_
      refine v_getI fX4_122 dX4_count_117 (mK_obj hm) ?_
      refine v_reti dX4_count_120 rfl ?_
      unfold sp_count
      first | (refine ⟨?_, rfl⟩; first | rfl | (rw [th_33]; rfl)) | skip
    · refine v_tableIn (tgt := 121) (off := 115) dX4_count_6 (by decide) (by decide) (by decide) (by decide) ?_
      refine v_aload_n dX4_count_121 rfl rfl ?_
      refine v_getI fX4_125 dX4_count_122 (mK_obj hm) ?_
      refine v_reti dX4_count_125 rfl ?_
      unfold sp_count
      first | (refine ⟨?_, rfl⟩; first | rfl | (rw [th_33]; rfl)) | skip
    · refine v_tableIn (tgt := 126) (off := 120) dX4_count_6 (by decide) (by decide) (by decide) (by decide) ?_
      refine v_aload_n dX4_count_126 rfl rfl ?_
      refine v_getI fX4_202 dX4_count_127 (mK_obj hm) ?_
      refine v_reti dX4_count_130 rfl ?_
      unfold sp_count
      first | (refine ⟨?_, rfl⟩; first | rfl | (rw [th_33]; rfl)) | skip
  · skip
    refine v_tableOut (tgt := 131) dX4_count_6 (sw_out hsw (by decide)) (by decide) ?_
    refine v_iconst (v := (-1)) dX4_count_131 (by decide) ?_
    refine v_reti dX4_count_132 rfl ?_
    unfold sp_count
    rw [if_neg (fun z => hsw (by rw [z]; decide))]
    rw [if_neg (fun z => hsw (by rw [z]; decide))]
    rw [if_neg (fun z => hsw (by rw [z]; decide))]
    rw [if_neg (fun z => hsw (by rw [z]; decide))]
    rw [if_neg (fun z => hsw (by rw [z]; decide))]
    rw [if_neg (fun z => hsw (by rw [z]; decide))]
    rw [if_neg (fun z => hsw (by rw [z]; decide))]
    rw [if_neg (fun z => hsw (by rw [z]; decide))]
    rw [if_neg (fun z => hsw (by rw [z]; decide))]
    rw [if_neg (fun z => hsw (by rw [z]; decide))]
    rw [if_neg (fun z => hsw (by rw [z]; decide))]
    exact ⟨rfl, rfl⟩

