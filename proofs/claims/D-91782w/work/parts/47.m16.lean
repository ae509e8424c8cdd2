set_option maxRecDepth 100000
theorem in_v {x : Int32} {n : Nat} (h : in_ x n) (hn : n < 2 ^ 31) : x.toNatClampNeg < n ∧ x = nI x.toNatClampNeg := by
  obtain ⟨k, h1, rfl⟩ := h
  rw [nI_clamp (by omega)]
  exact ⟨h1, rfl⟩
def kd_ (K : Nat → Int32) (w n : Nat) : Nat := (K (8 * w + n)).toNatClampNeg
def tn_ (K M : Nat → Int32) (w : Nat) : Nat → Nat
  | 0 => 0
  | n + 1 => tn_ K M w n + (if kd_ K w n = 1 ∨ kd_ K w n = 2 then kd_ M w n else 0)
theorem tn_s (K M : Nat → Int32) (w n : Nat) : tn_ K M w (n + 1) = tn_ K M w n + (if kd_ K w n = 1 ∨ kd_ K w n = 2 then kd_ M w n else 0) := rfl
def rcl_ (K M : Nat → Int32) (w : Nat) : Nat → Nat
  | 0 => 0
  | n + 1 => cc_ (rcl_ K M w n) (kd_ K w n) (kd_ M w n)
theorem rcl_s (K M : Nat → Int32) (w n : Nat) : rcl_ K M w (n + 1) = cc_ (rcl_ K M w n) (kd_ K w n) (kd_ M w n) := rfl
def rsw_ (K Z : Nat → Int32) (w : Nat) : Nat → Nat
  | 0 => 0
  | n + 1 => cs_ (rsw_ K Z w n) (kd_ K w n) (kd_ Z w n)
theorem rsw_s (K Z : Nat → Int32) (w n : Nat) : rsw_ K Z w (n + 1) = cs_ (rsw_ K Z w n) (kd_ K w n) (kd_ Z w n) := rfl
/-- a way's row, well made -/
def wk_ (K Z M : Nat → Int32) (w k : Nat) : Prop := k ≤ 8 ∧ ∀ n, n < k → in_ (K (8 * w + n)) 8 ∧ in_ (Z (8 * w + n)) 2 ∧ in_ (M (8 * w + n)) 21
theorem wk_d {K Z M : Nat → Int32} {w k n : Nat} (h : wk_ K Z M w k) (hn : n < k) : (kd_ K w n < 8 ∧ K (8 * w + n) = nI (kd_ K w n)) ∧ (kd_ Z w n < 2 ∧ Z (8 * w + n) = nI (kd_ Z w n)) ∧ (kd_ M w n < 21 ∧ M (8 * w + n) = nI (kd_ M w n)) := ⟨in_v (h.2 n hn).1 (by decide), in_v (h.2 n hn).2.1 (by decide), in_v (h.2 n hn).2.2 (by decide)⟩
theorem tn_le {K Z M : Nat → Int32} {w k : Nat} (h : wk_ K Z M w k) : ∀ n, n ≤ k → tn_ K M w n ≤ 20 * n
  | 0, _ => Nat.le_refl _
  | n + 1, hn => by
    have := tn_le h n (by omega)
    have := (wk_d h (n := n) (by omega)).2.2.1
    rw [tn_s]
    split <;> omega
theorem tn_mo (K M : Nat → Int32) (w : Nat) {a b : Nat} (h : a ≤ b) : tn_ K M w a ≤ tn_ K M w b := by
  induction h with
  | refl => exact Nat.le_refl _
  | step _ ih => exact Nat.le_trans ih (by rw [tn_s]; omega)
theorem tk_tn {K Z M : Nat → Int32} {w k : Nat} (h : wk_ K Z M w k) : ∀ n, n ≤ k → tk_ K M w n = nI (tn_ K M w n)
  | 0, _ => rfl
  | n + 1, hn => by
    obtain ⟨⟨a1, a2⟩, -, ⟨b1, b2⟩⟩ := wk_d h (n := n) (by omega)
    rw [tk_s, tn_s, tk_tn h n (by omega), a2, b2]
    by_cases z : kd_ K w n = 1 ∨ kd_ K w n = 2
    · rw [if_pos z, if_pos (z.elim (fun y => Or.inl (by rw [y]; rfl)) (fun y => Or.inr (by rw [y]; rfl))), nI_add]
    · rw [if_neg z, if_neg (fun y => z (y.elim (fun q => Or.inl ((nI_eq (b := 1) (by omega) (by decide)).mp q)) (fun q => Or.inr ((nI_eq (b := 2) (by omega) (by decide)).mp q))))]
      exact Int32.add_zero _
theorem rcl_lt {K Z M : Nat → Int32} {w k : Nat} (h : wk_ K Z M w k) : ∀ n, n ≤ k → rcl_ K M w n < 21
  | 0, _ => (by decide : 0 < 21)
  | n + 1, hn => by
    have := rcl_lt h n (by omega)
    have := (wk_d h (n := n) (by omega)).2.2.1
    rw [rcl_s]
    unfold cc_
    split <;> omega
theorem rsw_lt {K Z M : Nat → Int32} {w k : Nat} (h : wk_ K Z M w k) : ∀ n, n ≤ k → rsw_ K Z w n < 4
  | 0, _ => (by decide : 0 < 4)
  | n + 1, hn => by
    have h1 := rsw_lt h n (by omega)
    have h2 := (wk_d h (n := n) (by omega)).2.1.1
    rw [rsw_s]
    unfold cs_
    split
    · exact Nat.or_lt_two_pow (n := 2) h1 (Nat.pow_lt_pow_right (by decide) h2 : 2 ^ _ < 2 ^ 2)
    · exact h1
/-- only the run's own fields differ -/
def r6_ (h h' : AH) : Prop := hp_n h' = hp_n h ∧ hp_K h' = hp_K h ∧ hp_R h' = hp_R h ∧ hp_L h' = hp_L h ∧ (∀ p, p ≠ 241 → hp_I h' p = hp_I h p) ∧ ∀ f, (f < 36 ∨ 41 < f) → hp_I h' 241 f = hp_I h 241 f
theorem r6_rf (h : AH) : r6_ h h := ⟨rfl, rfl, rfl, rfl, fun _ _ => rfl, fun _ _ => rfl⟩
theorem r6_tr {h h1 h2 : AH} (a : r6_ h h1) (b : r6_ h1 h2) : r6_ h h2 := ⟨b.1.trans a.1, b.2.1.trans a.2.1, b.2.2.1.trans a.2.2.1, b.2.2.2.1.trans a.2.2.2.1, fun p hp => (b.2.2.2.2.1 p hp).trans (a.2.2.2.2.1 p hp), fun f hf => (b.2.2.2.2.2 f hf).trans (a.2.2.2.2.2 f hf)⟩
theorem r6_f {h h1 : AH} {f : Nat} {v : Int32} (a : r6_ h h1) (hf : 36 ≤ f ∧ f ≤ 41) : r6_ h (up_I h1 241 f v) := ⟨a.1, a.2.1, a.2.2.1, a.2.2.2.1, fun p hp => by rw [II_n hp]; exact a.2.2.2.2.1 p hp, fun g hg => by rw [hp_I_I, if_neg (fun z => by have := z.2; omega)]; exact a.2.2.2.2.2 g hg⟩
theorem r6_m {h h1 : AH} (a : r6_ h h1) (hm : MI h) : MI h1 := MI_of hm (fun p _ _ => by rw [a.2.1]) (fun k => by rw [a.2.2.1])
theorem r6_LD {A : Nat → Int32} {C : Nat → Nat → Int32} {nC sN : Nat} {S : Int32} {h h1 : AH} (hL : LD_ A C nC sN S h) (a : r6_ h h1) : LD_ A C nC sN S h1 := ⟨r6_m a hL.1, by rw [a.2.2.2.2.2 4 (by omega)]; exact hL.2.1, by rw [a.2.2.2.2.1 243 (by decide)]; exact hL.2.2.1, fun t ht j hj s hs => by rw [a.2.2.2.2.1 (245 + j) (by omega)]; exact hL.2.2.2 t ht j hj s hs⟩
theorem fp_r6 {h h1 : AH} (a : r6_ h h1) : fp_ h h1 := ⟨a.1, a.2.1, a.2.2.1, fun p _ hp => ⟨a.2.2.2.2.1 p hp, by rw [a.2.2.2.1]⟩, fun f hf => a.2.2.2.2.2 f (Classical.byContradiction fun z => hf (by
  rcases (show f = 36 ∨ f = 37 ∨ f = 38 ∨ f = 39 ∨ f = 40 ∨ f = 41 by omega) with e | e | e | e | e | e <;> subst e <;> decide))⟩
/-- step n of the run goes well -/
def okn_ (A : Nat → Int32) (C : Nat → Nat → Int32) (nC sN : Nat) (S : Int32) (K Z M : Nat → Int32) (w m p x0 g s e n : Nat) : Prop :=
  (kd_ K w n = 1 ∧ ∀ i, s + tn_ K M w n ≤ i → i < s + tn_ K M w n + kd_ M w n → gu_ A C nC sN S (nI (rcl_ K M w n)) m (rsw_ K Z w n) p x0 g (2 * p + kd_ Z w n) i) ∨ kd_ K w n = 2 ∨
  ((¬ kd_ K w n = 1 ∧ ¬ kd_ K w n = 2) ∧ cn_ A C nC sN S (nI (rcl_ K M w n)) m (rsw_ K Z w n) p x0 (kd_ K w n) (kd_ Z w n) (kd_ M w n) (s + tn_ K M w n) s e)
def ls_e (K M : Nat → Int32) (w k s : Nat) : Nat := if tn_ K M w k = 0 then s else s + tn_ K M w k - 1
/-- the run of way w, of k steps, from second s on -/
def run_ (A : Nat → Int32) (C : Nat → Nat → Int32) (nC sN : Nat) (S : Int32) (K Z M : Nat → Int32) (w k m p x0 g s e : Nat) : Prop :=
  ¬ x0 = g ∧ rc_ sN p x0 ∧ rc_ sN p g ∧ ls_e K M w k s ≤ e ∧ ∀ n, n < k → okn_ A C nC sN S K Z M w m p x0 g s (ls_e K M w k s) n
theorem cnP_e {P : Prop} {h CH h1 : AH} {q : Option Value} (z : cnP_ P h CH q h1) : q = some (.int (b2c P)) ∧ (P → h1 = CH) ∧ (¬ P → h1 = h) := by
  rcases z with ⟨a, b, c⟩ | ⟨a, b, c⟩
  · exact ⟨by rw [b2c_t a]; exact b, fun _ => c, fun y => absurd a y⟩
  · exact ⟨by rw [b2c_f a]; exact b, fun y => absurd y a, fun _ => c⟩
set_option maxHeartbeats 2000000 in
theorem c_X4_runs {G : Gv} {h : AH} {A : Nat → Int32} {C : Nat → Nat → Int32} {sN nC : Nat} {S : Int32} (hv : sv_ok A sN) (hL : LD_ A C nC sN S h) {w k p f th g s e : Nat} (hp : p < sN) (hf : f < 512) (hth : th < nLaid A) (hg : g ≤ sN) (hs9 : s < 100) (he : e < 100) (hw8 : w < 8) (hst : hp_I h 254 w = nI k) (hwk : wk_ (hp_I h 255) (hp_I h 256) (hp_I h 257) w k) : Ctr G 5 yX4_runs cX4_runs 13 (some .boolean) [.ref 241, .int (nI w), .int (nI p), .int (nI f), .int (nI th), .int (nI g), .int (nI s), .int (nI e)] h 0 0 (fun q h1 => q = some (.int (b2c (run_ A C nC sN S (hp_I h 255) (hp_I h 256) (hp_I h 257) w k (2 ^ p ||| f) p (wh_ A th (nI s) (nMov A)).toNatClampNeg g s e))) ∧ r6_ h h1) := by
  refine ctr_of (own := RX4) (nm := "runs") (by decide) (Nat.le_of_ble_eq_true rfl) ?_
  have hm := hL.1
  have hs := hL.2.1
  have hA := hL.2.2.1
  have h3 := sv_s hv
  obtain ⟨x0, hx0, ex⟩ : in_ (wh_ A th (nI s) (nMov A)) (sN + 1) := wh_in hv hth _ (Nat.le_refl _)
  have hlaid := (sv_laid hv).1
  have hk8 := hwk.1
  have htk := tn_le hwk k (Nat.le_refl _)
  have hmp : (2 ^ p ||| f).testBit p = true := by rw [Nat.testBit_or, Nat.testBit_two_pow_self, Bool.true_or]
  rw [ex, nI_clamp (by omega)]
  have hx : x0 ≤ sN := by omega
  refine v_aload_n dX4_runs_0 rfl rfl ?_
  refine v_aload_n dX4_runs_1 rfl rfl ?_
  refine v_iload dX4_runs_2 rfl ?_
  refine v_iload dX4_runs_4 rfl ?_
  refine v_pV mtX4_ahead q1874 q1876 qs69 rfl (by decide) dX4_runs_6 (c_X4_ahead (sN := sN) (thing := th) hm (by rw [hA]; exact hv) (by omega) _) (mK_obj hm) (by decide) ?_
  rw [hA, ex]
  refine v_putI fX4_327 (.inl rfl) dX4_runs_9 (mK_obj hm) ?_
  refine v_aload_n dX4_runs_12 rfl rfl ?_
  refine v_getI fX4_327 dX4_runs_13 (mK_obj hm) ?_
  rw [hp_I_I, if_pos ⟨rfl, rfl⟩]
  refine v_iload dX4_runs_16 rfl ?_
  refine v_icmp_eq (tgt := 43) dX4_runs_18 (by decide) (fun b18 => ?_) (fun b18 => ?_)
  · skip
    rw [nI_eq (by omega) (by omega)] at b18
    have hq : ¬ run_ A C nC sN S (hp_I h 255) (hp_I h 256) (hp_I h 257) w k (2 ^ p ||| f) p x0 g s e := fun z => z.1 b18
    refine v_iconst (v := 0) dX4_runs_43 (by decide) ?_
    refine v_reti dX4_runs_44 (by first | rfl | exact rt_c | exact rt_z | exact Or.inr rfl) ⟨congrArg (fun z => some (Value.int z)) (b2c_f hq).symm, (r6_f (r6_rf h) (by omega))⟩
  · skip
    rw [nI_eq (by omega) (by omega)] at b18
    refine v_aload_n dX4_runs_21 rfl rfl ?_
    refine v_iload_n dX4_runs_22 rfl rfl ?_
    refine v_aload_n dX4_runs_23 rfl rfl ?_
    refine v_getI fX4_327 dX4_runs_24 (mK_obj hm) ?_
    rw [hp_I_I, if_pos ⟨rfl, rfl⟩]
    refine v_pV mtX4_reaches q1882 q1884 qs71 rfl (by decide) dX4_runs_27 (c_X4_reaches (h := up_I h 241 38 (nI x0)) hm (sN := sN) hs h3 ?_ ?_) (mK_obj hm) (by decide) ?_
    · omega
    · omega
    refine v_if_eq (tgt := 43) dX4_runs_30 (by decide) (fun b30 => ?_) (fun b30 => ?_)
    · skip
      rw [b2i_0] at b30
      have hq : ¬ run_ A C nC sN S (hp_I h 255) (hp_I h 256) (hp_I h 257) w k (2 ^ p ||| f) p x0 g s e := fun z => b30 z.2.1
      refine v_iconst (v := 0) dX4_runs_43 (by decide) ?_
      refine v_reti dX4_runs_44 (by first | rfl | exact rt_c | exact rt_z | exact Or.inr rfl) ⟨congrArg (fun z => some (Value.int z)) (b2c_f hq).symm, (r6_f (r6_rf h) (by omega))⟩
    · skip
      rw [b2i_n0] at b30
      refine v_aload_n dX4_runs_33 rfl rfl ?_
      refine v_iload_n dX4_runs_34 rfl rfl ?_
      refine v_iload dX4_runs_35 rfl ?_
      refine v_pV mtX4_reaches q1882 q1884 qs71 rfl (by decide) dX4_runs_37 (c_X4_reaches (h := up_I h 241 38 (nI x0)) hm (sN := sN) hs h3 ?_ ?_) (mK_obj hm) (by decide) ?_
      · omega
      · omega
      refine v_if_ne (tgt := 45) dX4_runs_40 (by decide) (fun b40 => ?_) (fun b40 => ?_)
      · skip
        rw [b2i_n0] at b40
        refine v_aload_n dX4_runs_45 rfl rfl ?_
        refine v_iload_n dX4_runs_46 rfl rfl ?_
        refine v_pV mtX4_takes q1992 q1994 qs84 rfl (by decide) dX4_runs_47 (c_X4_takes (h := up_I h 241 38 (nI x0)) (k9 := k) hm (by omega) hwk.1 hst) (mK_obj hm) (by decide) ?_
        rw [II_n (by decide), II_n (by decide), tk_tn hwk k (Nat.le_refl _)]
        refine v_istore dX4_runs_50 (by decide) ?_
        refine v_join 69 (fun z => z = nI (ls_e (hp_I h 255) (hp_I h 257) w k s)) (fun z hz => ?_) (fun hj69 => ?_)
        · skip
          subst hz
          have hle9 : ls_e (hp_I h 255) (hp_I h 257) w k s < 400 := by unfold ls_e; split <;> omega
          refine v_istore dX4_runs_69 (by decide) ?_
          refine v_iload dX4_runs_71 rfl ?_
          refine v_iload dX4_runs_73 rfl ?_
          refine v_icmp_le (tgt := 80) dX4_runs_75 (by decide) (fun b75 => ?_) (fun b75 => ?_)
          · skip
            rw [nI_leI (by omega) (by omega)] at b75
            have hte : s + tn_ (hp_I h 255) (hp_I h 257) w k ≤ 100 := by unfold ls_e at b75; split at b75 <;> omega
            refine v_aload_n dX4_runs_80 rfl rfl ?_
            refine v_iload_n dX4_runs_81 rfl rfl ?_
            refine v_putI fX4_309 (.inl rfl) dX4_runs_82 (mK_obj hm) ?_
            refine v_aload_n dX4_runs_85 rfl rfl ?_
            refine v_iconst (v := 1) dX4_runs_86 (by decide) ?_
            refine v_iload_n dX4_runs_87 rfl rfl ?_
            refine v_ishl dX4_runs_88 ?_
            rw [sh_1 (by omega)]
            refine v_iload_n dX4_runs_89 rfl rfl ?_
            refine v_ior dX4_runs_90 ?_
            rw [nI_or]
            refine v_iconst (v := (-1)) dX4_runs_91 (by decide) ?_
            refine v_ixor dX4_runs_92 ?_
            refine v_putI fX4_318 (.inl rfl) dX4_runs_93 (mK_obj hm) ?_
            refine v_aload_n dX4_runs_96 rfl rfl ?_
            refine v_iload dX4_runs_97 rfl ?_
            refine v_putI fX4_330 (.inl rfl) dX4_runs_99 (mK_obj hm) ?_
            refine v_aload_n dX4_runs_102 rfl rfl ?_
            refine v_iconst (v := 0) dX4_runs_103 (by decide) ?_
            refine v_putI fX4_312 (.inl rfl) dX4_runs_104 (mK_obj hm) ?_
            refine v_aload_n dX4_runs_107 rfl rfl ?_
            refine v_iconst (v := 0) dX4_runs_108 (by decide) ?_
            refine v_putI fX4_321 (.inl rfl) dX4_runs_109 (mK_obj hm) ?_
            refine v_iload dX4_runs_112 rfl ?_
            refine v_istore dX4_runs_114 (by decide) ?_
            refine v_bipush (v := nI 8) dX4_runs_116 (by decide) ?_
            refine v_iload_n dX4_runs_118 rfl rfl ?_
            refine v_imul dX4_runs_119 ?_
            rw [pk_mul]
            refine v_istore dX4_runs_120 (by decide) ?_
            refine v_loc2 (by repeat' (first | with_reducible exact lsub_n | with_reducible refine lsub_c ?_ ?_ | with_reducible refine lk_hit ?_ | with_reducible refine lk_miss (by decide) ?_ ?_ | exact rfl)) (v_lp2 (fun (n : Nat) (hh : AH) => k - n) (fun (n : Nat) (hh : AH) => n ≤ k ∧ r6_ h hh ∧ hp_I hh 241 36 = nI p ∧ hp_I hh 241 40 = nI (rcl_ (hp_I h 255) (hp_I h 257) w n) ∧ hp_I hh 241 37 = nI (2 ^ p ||| f) ^^^ -1 ∧ hp_I hh 241 38 = nI x0 ∧ hp_I hh 241 39 = nI g ∧ hp_I hh 241 41 = nI (rsw_ (hp_I h 255) (hp_I h 256) w n) ∧ ∀ i, i < n → okn_ A C nC sN S (hp_I h 255) (hp_I h 256) (hp_I h 257) w (2 ^ p ||| f) p x0 g s (ls_e (hp_I h 255) (hp_I h 257) w k s) i) (fun (n : Nat) (hh : AH) => [(0, .ref 241), (1, .int (nI w)), (2, .int (nI p)), (3, .int (nI f)), (4, .int (nI th)), (5, .int (nI g)), (6, .int (nI s)), (7, .int (nI e)), (8, .int (nI (tn_ (hp_I h 255) (hp_I h 257) w k))), (9, .int (nI (ls_e (hp_I h 255) (hp_I h 257) w k s))), (10, .int (nI (s + tn_ (hp_I h 255) (hp_I h 257) w n))), (11, .int (nI (8 * w + n)))]) (fun (n : Nat) (hh : AH) => hh) ?_ 0 _ ⟨Nat.zero_le _, r6_f (r6_f (r6_f (r6_f (r6_f (r6_f (r6_rf h) (by omega)) (by omega)) (by omega)) (by omega)) (by omega)) (by omega), rfl, rfl, rfl, rfl, rfl, rfl, fun i hi => absurd hi (Nat.not_lt_zero i)⟩)
            intro n hh hI IH
            obtain ⟨hI1, hr, hP, hc, hw, hX, hG, hsw, hok9⟩ := hI
            have hm : MI hh := r6_m hr hL.1
            refine v_iload dX4_runs_122 rfl ?_
            refine v_bipush (v := nI 8) dX4_runs_124 (by decide) ?_
            refine v_iload_n dX4_runs_126 rfl rfl ?_
            refine v_imul dX4_runs_127 ?_
            rw [pk_mul]
            refine v_aload_n dX4_runs_128 rfl rfl ?_
            refine v_getR fX4_54 dX4_runs_129 (mK_obj hm) (mR_steps hm) ?_ fcA_I
            refine v_iload_n dX4_runs_132 rfl rfl ?_
            refine v_iald dX4_runs_133 (mK_steps hm) rfl (by first | assumption | omega) ?_
            rw [hr.2.2.2.2.1 254 (by decide), hst]
            refine v_iadd dX4_runs_134 ?_
            rw [nI_add]
            refine v_icmp_ge (tgt := 256) dX4_runs_135 (by decide) (fun b135 => ?_) (fun b135 => ?_)
            · skip
              rw [nI_leI (by omega) (by omega)] at b135
              have hk : k = n := by omega
              subst hk
              refine v_iconst (v := 1) dX4_runs_256 (by decide) ?_
              refine v_reti dX4_runs_257 (by first | rfl | exact rt_c | exact rt_z | exact Or.inr rfl) ⟨congrArg (fun z => some (Value.int z)) (b2c_t ⟨b18, b30, b40, b75, hok9⟩).symm, hr⟩
            · skip
              rw [nI_leI (by omega) (by omega)] at b135
              have hk : n < k := by omega
              obtain ⟨⟨k1, k2⟩, ⟨z1, z2⟩, ⟨m1, m2⟩⟩ := wk_d hwk hk
              have hmo := tn_mo (hp_I h 255) (hp_I h 257) w (show n + 1 ≤ k from hk)
              have hts := tn_s (hp_I h 255) (hp_I h 257) w n
              have hsw4 := rsw_lt hwk n (by omega)
              have hc21 := rcl_lt hwk n (by omega)
              have hLh := r6_LD hL hr
              have hmo0 := tn_mo (hp_I h 255) (hp_I h 257) w (show n ≤ k by omega)
              refine v_cut 196 (kd_ (hp_I h 255) w n = 1 → ∀ i, s + tn_ (hp_I h 255) (hp_I h 257) w n ≤ i → i < s + tn_ (hp_I h 255) (hp_I h 257) w n + kd_ (hp_I h 257) w n → gu_ A C nC sN S (nI (rcl_ (hp_I h 255) (hp_I h 257) w n)) (2 ^ p ||| f) (rsw_ (hp_I h 255) (hp_I h 256) w n) p x0 g (2 * p + kd_ (hp_I h 256) w n) i) (fun hz196 => ?_) (fun hc196 => ?_)
              · skip
                refine v_aload_n dX4_runs_196 rfl rfl ?_
                refine v_getR fX4_57 dX4_runs_197 (mK_obj hm) (mR_kindOf hm) ?_ fcA_I
                refine v_iload dX4_runs_200 rfl ?_
                refine v_iald dX4_runs_202 (mK_kindOf hm) rfl (by first | assumption | omega) ?_
                rw [hr.2.2.2.2.1 255 (by decide), k2]
                refine v_iconst (v := nI 1) dX4_runs_203 (by decide) ?_
                refine v_icmp_eq (tgt := 218) dX4_runs_204 (by decide) (fun b204 => ?_) (fun b204 => ?_)
                · skip
                  rw [nI_eq (by omega) (by omega)] at b204
                  rw [if_pos (Or.inl b204)] at hts
                  have hok : okn_ A C nC sN S (hp_I h 255) (hp_I h 256) (hp_I h 257) w (2 ^ p ||| f) p x0 g s (ls_e (hp_I h 255) (hp_I h 257) w k s) n := Or.inl ⟨b204, hz196 b204⟩
                  have n6 : ¬ kd_ (hp_I h 255) w n = 6 := by omega
                  have n5 : ¬ kd_ (hp_I h 255) w n = 5 := by omega
                  have hnx : (n + 1) ≤ k ∧ r6_ h hh ∧ hp_I hh 241 36 = nI p ∧ hp_I hh 241 40 = nI (rcl_ (hp_I h 255) (hp_I h 257) w (n + 1)) ∧ hp_I hh 241 37 = nI (2 ^ p ||| f) ^^^ -1 ∧ hp_I hh 241 38 = nI x0 ∧ hp_I hh 241 39 = nI g ∧ hp_I hh 241 41 = nI (rsw_ (hp_I h 255) (hp_I h 256) w (n + 1)) ∧ ∀ i, i < (n + 1) → okn_ A C nC sN S (hp_I h 255) (hp_I h 256) (hp_I h 257) w (2 ^ p ||| f) p x0 g s (ls_e (hp_I h 255) (hp_I h 257) w k s) i := ⟨by omega, hr, hP, by rw [rcl_s]; unfold cc_; rw [if_neg n6]; exact hc, hw, hX, hG, by rw [rsw_s]; unfold cs_; rw [if_neg n5]; exact hsw, fun i hi => (Nat.lt_succ_iff_lt_or_eq.mp hi).elim (hok9 i) (fun y => by rw [y]; exact hok)⟩
                  have ht10 : s + tn_ (hp_I h 255) (hp_I h 257) w n + kd_ (hp_I h 257) w n = s + tn_ (hp_I h 255) (hp_I h 257) w (n + 1) := by omega
                  refine v_iload dX4_runs_218 rfl ?_
                  refine v_aload_n dX4_runs_220 rfl rfl ?_
                  refine v_getR fX4_63 dX4_runs_221 (mK_obj hm) (mR_manyOf hm) ?_ fcA_I
                  refine v_iload dX4_runs_224 rfl ?_
                  refine v_iald dX4_runs_226 (mK_manyOf hm) rfl (by first | assumption | omega) ?_
                  rw [hr.2.2.2.2.1 257 (by decide), m2]
                  refine v_iadd dX4_runs_227 ?_
                  rw [nI_add]
                  refine v_istore dX4_runs_228 (by decide) ?_
                  refine v_goto (tgt := 250) dX4_runs_230 (by decide) ?_
                  refine v_iinc dX4_runs_250 rfl (by first | with_reducible exact nI_inc _ | exact rfl) (by decide) ?_
                  refine v_goto (tgt := 122) dX4_runs_253 (by decide) ?_
                  refine v_loc2 (by repeat' (first | with_reducible exact lsub_n | with_reducible refine lsub_c ?_ ?_ | with_reducible refine lk_hit ?_ | with_reducible refine lk_miss (by decide) ?_ ?_ | (first | exact rfl | exact congrArg (fun z => Value.int (nI z)) ht10 | exact congrArg (fun z => some (Value.int (nI z))) ht10))) (IH (n + 1) _ hnx (by omega))
                · skip
                  rw [nI_eq (by omega) (by omega)] at b204
                  refine v_aload_n dX4_runs_207 rfl rfl ?_
                  refine v_getR fX4_57 dX4_runs_208 (mK_obj hm) (mR_kindOf hm) ?_ fcA_I
                  refine v_iload dX4_runs_211 rfl ?_
                  refine v_iald dX4_runs_213 (mK_kindOf hm) rfl (by first | assumption | omega) ?_
                  rw [hr.2.2.2.2.1 255 (by decide), k2]
                  refine v_iconst (v := nI 2) dX4_runs_214 (by decide) ?_
                  refine v_icmp_ne (tgt := 233) dX4_runs_215 (by decide) (fun b215 => ?_) (fun b215 => ?_)
                  · skip
                    rw [nI_eq (by omega) (by omega)] at b215
                    rw [if_neg (fun z => z.elim b204 b215)] at hts
                    have hst9 : stp_ok hh (8 * w + n) (kd_ (hp_I h 255) w n) (kd_ (hp_I h 256) w n) (kd_ (hp_I h 257) w n) := ⟨⟨k1, by rw [hr.2.2.2.2.1 255 (by decide)]; exact k2⟩, ⟨z1, by rw [hr.2.2.2.2.1 256 (by decide)]; exact z2⟩, ⟨m1, by rw [hr.2.2.2.2.1 257 (by decide)]; exact m2⟩⟩
                    refine v_aload_n dX4_runs_233 rfl rfl ?_
                    refine v_iload dX4_runs_234 rfl ?_
                    refine v_iload dX4_runs_236 rfl ?_
                    refine v_iload dX4_runs_238 rfl ?_
                    refine v_iload dX4_runs_240 rfl ?_
                    refine v_zV mtX4_can q2024 q2026 qs91 rfl (by decide) dX4_runs_242 (c_X4_can hv hLh hp hP hc hc21 hw hmp hx hX hsw hsw4 ?_ hst9 ⟨b204, b215⟩ ?_ ?_ ?_) (mK_obj hm) (by decide) (fun r242 h242 q242 z242 => ?_)
                    · omega
                    · omega
                    · omega
                    · omega
                    obtain ⟨rfl, hct, hcf⟩ := cnP_e q242
                    refine v_if_ne (tgt := 250) dX4_runs_245 (by decide) (fun b245 => ?_) (fun b245 => ?_)
                    · skip
                      rw [b2c_n0] at b245
                      obtain rfl := hct b245
                      have hok : okn_ A C nC sN S (hp_I h 255) (hp_I h 256) (hp_I h 257) w (2 ^ p ||| f) p x0 g s (ls_e (hp_I h 255) (hp_I h 257) w k s) n := Or.inr (Or.inr ⟨⟨b204, b215⟩, b245⟩)
                      have hnx : (n + 1) ≤ k ∧ r6_ h (up_I (up_I hh 241 40 (nI (cc_ (rcl_ (hp_I h 255) (hp_I h 257) w n) (kd_ (hp_I h 255) w n) (kd_ (hp_I h 257) w n)))) 241 41 (nI (cs_ (rsw_ (hp_I h 255) (hp_I h 256) w n) (kd_ (hp_I h 255) w n) (kd_ (hp_I h 256) w n)))) ∧ hp_I (up_I (up_I hh 241 40 (nI (cc_ (rcl_ (hp_I h 255) (hp_I h 257) w n) (kd_ (hp_I h 255) w n) (kd_ (hp_I h 257) w n)))) 241 41 (nI (cs_ (rsw_ (hp_I h 255) (hp_I h 256) w n) (kd_ (hp_I h 255) w n) (kd_ (hp_I h 256) w n)))) 241 36 = nI p ∧ hp_I (up_I (up_I hh 241 40 (nI (cc_ (rcl_ (hp_I h 255) (hp_I h 257) w n) (kd_ (hp_I h 255) w n) (kd_ (hp_I h 257) w n)))) 241 41 (nI (cs_ (rsw_ (hp_I h 255) (hp_I h 256) w n) (kd_ (hp_I h 255) w n) (kd_ (hp_I h 256) w n)))) 241 40 = nI (rcl_ (hp_I h 255) (hp_I h 257) w (n + 1)) ∧ hp_I (up_I (up_I hh 241 40 (nI (cc_ (rcl_ (hp_I h 255) (hp_I h 257) w n) (kd_ (hp_I h 255) w n) (kd_ (hp_I h 257) w n)))) 241 41 (nI (cs_ (rsw_ (hp_I h 255) (hp_I h 256) w n) (kd_ (hp_I h 255) w n) (kd_ (hp_I h 256) w n)))) 241 37 = nI (2 ^ p ||| f) ^^^ -1 ∧ hp_I (up_I (up_I hh 241 40 (nI (cc_ (rcl_ (hp_I h 255) (hp_I h 257) w n) (kd_ (hp_I h 255) w n) (kd_ (hp_I h 257) w n)))) 241 41 (nI (cs_ (rsw_ (hp_I h 255) (hp_I h 256) w n) (kd_ (hp_I h 255) w n) (kd_ (hp_I h 256) w n)))) 241 38 = nI x0 ∧ hp_I (up_I (up_I hh 241 40 (nI (cc_ (rcl_ (hp_I h 255) (hp_I h 257) w n) (kd_ (hp_I h 255) w n) (kd_ (hp_I h 257) w n)))) 241 41 (nI (cs_ (rsw_ (hp_I h 255) (hp_I h 256) w n) (kd_ (hp_I h 255) w n) (kd_ (hp_I h 256) w n)))) 241 39 = nI g ∧ hp_I (up_I (up_I hh 241 40 (nI (cc_ (rcl_ (hp_I h 255) (hp_I h 257) w n) (kd_ (hp_I h 255) w n) (kd_ (hp_I h 257) w n)))) 241 41 (nI (cs_ (rsw_ (hp_I h 255) (hp_I h 256) w n) (kd_ (hp_I h 255) w n) (kd_ (hp_I h 256) w n)))) 241 41 = nI (rsw_ (hp_I h 255) (hp_I h 256) w (n + 1)) ∧ ∀ i, i < (n + 1) → okn_ A C nC sN S (hp_I h 255) (hp_I h 256) (hp_I h 257) w (2 ^ p ||| f) p x0 g s (ls_e (hp_I h 255) (hp_I h 257) w k s) i := ⟨by omega, r6_f (r6_f hr (by omega)) (by omega), hP, rfl, hw, hX, hG, rfl, fun i hi => (Nat.lt_succ_iff_lt_or_eq.mp hi).elim (hok9 i) (fun y => by rw [y]; exact hok)⟩
                      have ht10 : s + tn_ (hp_I h 255) (hp_I h 257) w n = s + tn_ (hp_I h 255) (hp_I h 257) w (n + 1) := by omega
                      refine v_iinc dX4_runs_250 rfl (by first | with_reducible exact nI_inc _ | exact rfl) (by decide) ?_
                      refine v_goto (tgt := 122) dX4_runs_253 (by decide) ?_
                      refine v_loc2 (by repeat' (first | with_reducible exact lsub_n | with_reducible refine lsub_c ?_ ?_ | with_reducible refine lk_hit ?_ | with_reducible refine lk_miss (by decide) ?_ ?_ | (first | exact rfl | exact congrArg (fun z => Value.int (nI z)) ht10 | exact congrArg (fun z => some (Value.int (nI z))) ht10))) (IH (n + 1) _ hnx (by omega))
                    · skip
                      rw [b2c_0] at b245
                      obtain rfl := hcf b245
                      have hq : ¬ run_ A C nC sN S (hp_I h 255) (hp_I h 256) (hp_I h 257) w k (2 ^ p ||| f) p x0 g s e := fun z => by
                       rcases z.2.2.2.2 n hk with y | y | y
                       · exact b204 y.1
                       · exact b215 y
                       · exact b245 y.2
                      refine v_iconst (v := 0) dX4_runs_248 (by decide) ?_
                      refine v_reti dX4_runs_249 (by first | rfl | exact rt_c | exact rt_z | exact Or.inr rfl) ⟨congrArg (fun z => some (Value.int z)) (b2c_f hq).symm, hr⟩
                  · skip
                    rw [nI_eq (by omega) (by omega)] at b215
                    rw [if_pos (Or.inr b215)] at hts
                    have hok : okn_ A C nC sN S (hp_I h 255) (hp_I h 256) (hp_I h 257) w (2 ^ p ||| f) p x0 g s (ls_e (hp_I h 255) (hp_I h 257) w k s) n := Or.inr (Or.inl b215)
                    have n6 : ¬ kd_ (hp_I h 255) w n = 6 := by omega
                    have n5 : ¬ kd_ (hp_I h 255) w n = 5 := by omega
                    have hnx : (n + 1) ≤ k ∧ r6_ h hh ∧ hp_I hh 241 36 = nI p ∧ hp_I hh 241 40 = nI (rcl_ (hp_I h 255) (hp_I h 257) w (n + 1)) ∧ hp_I hh 241 37 = nI (2 ^ p ||| f) ^^^ -1 ∧ hp_I hh 241 38 = nI x0 ∧ hp_I hh 241 39 = nI g ∧ hp_I hh 241 41 = nI (rsw_ (hp_I h 255) (hp_I h 256) w (n + 1)) ∧ ∀ i, i < (n + 1) → okn_ A C nC sN S (hp_I h 255) (hp_I h 256) (hp_I h 257) w (2 ^ p ||| f) p x0 g s (ls_e (hp_I h 255) (hp_I h 257) w k s) i := ⟨by omega, hr, hP, by rw [rcl_s]; unfold cc_; rw [if_neg n6]; exact hc, hw, hX, hG, by rw [rsw_s]; unfold cs_; rw [if_neg n5]; exact hsw, fun i hi => (Nat.lt_succ_iff_lt_or_eq.mp hi).elim (hok9 i) (fun y => by rw [y]; exact hok)⟩
                    have ht10 : s + tn_ (hp_I h 255) (hp_I h 257) w n + kd_ (hp_I h 257) w n = s + tn_ (hp_I h 255) (hp_I h 257) w (n + 1) := by omega
                    refine v_iload dX4_runs_218 rfl ?_
                    refine v_aload_n dX4_runs_220 rfl rfl ?_
                    refine v_getR fX4_63 dX4_runs_221 (mK_obj hm) (mR_manyOf hm) ?_ fcA_I
                    refine v_iload dX4_runs_224 rfl ?_
                    refine v_iald dX4_runs_226 (mK_manyOf hm) rfl (by first | assumption | omega) ?_
                    rw [hr.2.2.2.2.1 257 (by decide), m2]
                    refine v_iadd dX4_runs_227 ?_
                    rw [nI_add]
                    refine v_istore dX4_runs_228 (by decide) ?_
                    refine v_goto (tgt := 250) dX4_runs_230 (by decide) ?_
                    refine v_iinc dX4_runs_250 rfl (by first | with_reducible exact nI_inc _ | exact rfl) (by decide) ?_
                    refine v_goto (tgt := 122) dX4_runs_253 (by decide) ?_
                    refine v_loc2 (by repeat' (first | with_reducible exact lsub_n | with_reducible refine lsub_c ?_ ?_ | with_reducible refine lk_hit ?_ | with_reducible refine lk_miss (by decide) ?_ ?_ | (first | exact rfl | exact congrArg (fun z => Value.int (nI z)) ht10 | exact congrArg (fun z => some (Value.int (nI z))) ht10))) (IH (n + 1) _ hnx (by omega))
              · skip
                refine v_aload_n dX4_runs_138 rfl rfl ?_
                refine v_getR fX4_57 dX4_runs_139 (mK_obj hm) (mR_kindOf hm) ?_ fcA_I
                refine v_iload dX4_runs_142 rfl ?_
                refine v_iald dX4_runs_144 (mK_kindOf hm) rfl (by first | assumption | omega) ?_
                rw [hr.2.2.2.2.1 255 (by decide), k2]
                refine v_iconst (v := nI 1) dX4_runs_145 (by decide) ?_
                refine v_icmp_ne (tgt := 196) dX4_runs_146 (by decide) (fun b146 => ?_) (fun b146 => ?_)
                · skip
                  rw [nI_eq (by omega) (by omega)] at b146
                  have hq : kd_ (hp_I h 255) w n = 1 → ∀ i, s + tn_ (hp_I h 255) (hp_I h 257) w n ≤ i → i < s + tn_ (hp_I h 255) (hp_I h 257) w n + kd_ (hp_I h 257) w n → gu_ A C nC sN S (nI (rcl_ (hp_I h 255) (hp_I h 257) w n)) (2 ^ p ||| f) (rsw_ (hp_I h 255) (hp_I h 256) w n) p x0 g (2 * p + kd_ (hp_I h 256) w n) i := fun z => absurd z b146
                  refine v_loc2 (by repeat' (first | with_reducible exact lsub_n | with_reducible refine lsub_c ?_ ?_ | with_reducible refine lk_hit ?_ | with_reducible refine lk_miss (by decide) ?_ ?_ | exact rfl)) (hc196 hq)
                · skip
                  rw [nI_eq (by omega) (by omega)] at b146
                  rw [if_pos (Or.inl b146)] at hts
                  refine v_iload dX4_runs_149 rfl ?_
                  refine v_istore dX4_runs_151 (by decide) ?_
                  refine v_loc2 (by repeat' (first | with_reducible exact lsub_n | with_reducible refine lsub_c ?_ ?_ | with_reducible refine lk_hit ?_ | with_reducible refine lk_miss (by decide) ?_ ?_ | exact rfl)) (v_lp1 (fun (j : Nat) => s + tn_ (hp_I h 255) (hp_I h 257) w n + kd_ (hp_I h 257) w n - j) (fun (j : Nat) => s + tn_ (hp_I h 255) (hp_I h 257) w n ≤ j ∧ j ≤ s + tn_ (hp_I h 255) (hp_I h 257) w n + kd_ (hp_I h 257) w n ∧ ∀ i, s + tn_ (hp_I h 255) (hp_I h 257) w n ≤ i → i < j → gu_ A C nC sN S (nI (rcl_ (hp_I h 255) (hp_I h 257) w n)) (2 ^ p ||| f) (rsw_ (hp_I h 255) (hp_I h 256) w n) p x0 g (2 * p + kd_ (hp_I h 256) w n) i) (fun (j : Nat) => [(0, .ref 241), (1, .int (nI w)), (2, .int (nI p)), (3, .int (nI f)), (4, .int (nI th)), (5, .int (nI g)), (6, .int (nI s)), (7, .int (nI e)), (8, .int (nI (tn_ (hp_I h 255) (hp_I h 257) w k))), (9, .int (nI (ls_e (hp_I h 255) (hp_I h 257) w k s))), (10, .int (nI (s + tn_ (hp_I h 255) (hp_I h 257) w n))), (11, .int (nI (8 * w + n))), (12, .int (nI j))]) (fun _ => []) (fun (j : Nat) => hh) ?_ (s + tn_ (hp_I h 255) (hp_I h 257) w n) ⟨Nat.le_refl _, by omega, fun i h1 h2 => by omega⟩)
                  intro j hJ IHj
                  obtain ⟨hJ1, hJ3, hJ2⟩ := hJ
                  refine v_iload dX4_runs_153 rfl ?_
                  refine v_iload dX4_runs_155 rfl ?_
                  refine v_aload_n dX4_runs_157 rfl rfl ?_
                  refine v_getR fX4_63 dX4_runs_158 (mK_obj hm) (mR_manyOf hm) ?_ fcA_I
                  refine v_iload dX4_runs_161 rfl ?_
                  refine v_iald dX4_runs_163 (mK_manyOf hm) rfl (by first | assumption | omega) ?_
                  rw [hr.2.2.2.2.1 257 (by decide), m2]
                  refine v_iadd dX4_runs_164 ?_
                  rw [nI_add]
                  refine v_icmp_ge (tgt := 196) dX4_runs_165 (by decide) (fun b165 => ?_) (fun b165 => ?_)
                  · skip
                    rw [nI_leI (by omega) (by omega)] at b165
                    have hq : kd_ (hp_I h 255) w n = 1 → ∀ i, s + tn_ (hp_I h 255) (hp_I h 257) w n ≤ i → i < s + tn_ (hp_I h 255) (hp_I h 257) w n + kd_ (hp_I h 257) w n → gu_ A C nC sN S (nI (rcl_ (hp_I h 255) (hp_I h 257) w n)) (2 ^ p ||| f) (rsw_ (hp_I h 255) (hp_I h 256) w n) p x0 g (2 * p + kd_ (hp_I h 256) w n) i := fun _ i h1 h2 => hJ2 i h1 (by omega)
                    refine v_loc2 (by repeat' (first | with_reducible exact lsub_n | with_reducible refine lsub_c ?_ ?_ | with_reducible refine lk_hit ?_ | with_reducible refine lk_miss (by decide) ?_ ?_ | exact rfl)) (hc196 hq)
                  · skip
                    rw [nI_leI (by omega) (by omega)] at b165
                    refine v_aload_n dX4_runs_168 rfl rfl ?_
                    refine v_iconst (v := 2) dX4_runs_169 (by decide) ?_
                    refine v_iload_n dX4_runs_170 rfl rfl ?_
                    refine v_imul dX4_runs_171 ?_
                    refine v_aload_n dX4_runs_172 rfl rfl ?_
                    refine v_getR fX4_60 dX4_runs_173 (mK_obj hm) (mR_sideOf hm) ?_ fcA_I
                    refine v_iload dX4_runs_176 rfl ?_
                    refine v_iald dX4_runs_178 (mK_sideOf hm) rfl (by first | assumption | omega) ?_
                    rw [hr.2.2.2.2.1 256 (by decide), z2]
                    refine v_iadd dX4_runs_179 ?_
                    rw [show (2 * nI p + nI (kd_ (hp_I h 256) w n) : Int32) = nI (2 * p + kd_ (hp_I h 256) w n) from by rw [nI_2, nI_add]]
                    refine v_iload dX4_runs_180 rfl ?_
                    refine v_pV mtX4_goesUnseen q2012 q2014 qs88 rfl (by decide) dX4_runs_182 (c_X4_goesUnseen hv hLh hp hP hc hw hmp hx hX hg hG hsw hsw4 ?_ ?_) (mK_obj hm) (by decide) ?_
                    · omega
                    · omega
                    refine v_if_ne (tgt := 190) dX4_runs_185 (by decide) (fun b185 => ?_) (fun b185 => ?_)
                    · skip
                      rw [b2c_n0] at b185
                      refine v_iinc dX4_runs_190 rfl (by first | with_reducible exact nI_inc _ | exact rfl) (by decide) ?_
                      refine v_goto (tgt := 153) dX4_runs_193 (by decide) ?_
                      refine v_loc2 (by repeat' (first | with_reducible exact lsub_n | with_reducible refine lsub_c ?_ ?_ | with_reducible refine lk_hit ?_ | with_reducible refine lk_miss (by decide) ?_ ?_ | exact rfl)) (IHj (j + 1) ⟨by omega, by omega, fun i h1 h2 => (Nat.lt_succ_iff_lt_or_eq.mp h2).elim (hJ2 i h1) (fun y => by rw [y]; exact b185)⟩ (by omega))
                    · skip
                      rw [b2c_0] at b185
                      have hq : ¬ run_ A C nC sN S (hp_I h 255) (hp_I h 256) (hp_I h 257) w k (2 ^ p ||| f) p x0 g s e := fun z => by
                       rcases z.2.2.2.2 n hk with y | y | y
                       · exact b185 (y.2 j hJ1 (by omega))
                       · exact absurd (b146.symm.trans y) (by decide)
                       · exact y.1.1 b146
                      refine v_iconst (v := 0) dX4_runs_188 (by decide) ?_
                      refine v_reti dX4_runs_189 (by first | rfl | exact rt_c | exact rt_z | exact Or.inr rfl) ⟨congrArg (fun z => some (Value.int z)) (b2c_f hq).symm, hr⟩
          · skip
            rw [nI_leI (by omega) (by omega)] at b75
            have hq : ¬ run_ A C nC sN S (hp_I h 255) (hp_I h 256) (hp_I h 257) w k (2 ^ p ||| f) p x0 g s e := fun z => b75 z.2.2.2.1
            refine v_iconst (v := 0) dX4_runs_78 (by decide) ?_
            refine v_reti dX4_runs_79 (by first | rfl | exact rt_c | exact rt_z | exact Or.inr rfl) ⟨congrArg (fun z => some (Value.int z)) (b2c_f hq).symm, (r6_f (r6_rf h) (by omega))⟩
        · skip
          refine v_iload dX4_runs_52 rfl ?_
          refine v_if_ne (tgt := 62) dX4_runs_54 (by decide) (fun b54 => ?_) (fun b54 => ?_)
          · skip
            have htz : ¬ tn_ (hp_I h 255) (hp_I h 257) w k = 0 := fun z => b54 (by rw [z]; rfl)
            refine v_iload dX4_runs_62 rfl ?_
            refine v_iload dX4_runs_64 rfl ?_
            refine v_iadd dX4_runs_66 ?_
            rw [nI_add]
            refine v_iconst (v := 1) dX4_runs_67 (by decide) ?_
            refine v_isub dX4_runs_68 ?_
            rw [nI_sub1 (by omega)]
            exact hj69 _ (by unfold ls_e; first | rw [if_pos htz] | rw [if_neg htz])
          · skip
            have htz : tn_ (hp_I h 255) (hp_I h 257) w k = 0 := (nI_eq (b := 0) (by omega) (by decide)).mp b54
            refine v_iload dX4_runs_57 rfl ?_
            refine v_goto (tgt := 69) dX4_runs_59 (by decide) ?_
            exact hj69 _ (by unfold ls_e; first | rw [if_pos htz] | rw [if_neg htz])
      · skip
        rw [b2i_0] at b40
        have hq : ¬ run_ A C nC sN S (hp_I h 255) (hp_I h 256) (hp_I h 257) w k (2 ^ p ||| f) p x0 g s e := fun z => b40 z.2.2.1
        refine v_iconst (v := 0) dX4_runs_43 (by decide) ?_
        refine v_reti dX4_runs_44 (by first | rfl | exact rt_c | exact rt_z | exact Or.inr rfl) ⟨congrArg (fun z => some (Value.int z)) (b2c_f hq).symm, (r6_f (r6_rf h) (by omega))⟩

/-- the first second from which the way runs, else -1 -/
noncomputable def ft_ (P : Nat → Prop) (s : Nat) : Nat → Int32
  | 0 => -1
  | n + 1 => cf_ (P s) (nI s) (ft_ P (s + 1) n)
theorem ft_s (P : Nat → Prop) (s n : Nat) : ft_ P s (n + 1) = cf_ (P s) (nI s) (ft_ P (s + 1) n) := rfl
theorem ft_z (P : Nat → Prop) (s : Nat) : ft_ P s 0 = -1 := rfl
set_option maxHeartbeats 1000000 in
theorem c_X4_fitsAt {G : Gv} {h : AH} {A : Nat → Int32} {C : Nat → Nat → Int32} {sN nC : Nat} {S : Int32} (hv : sv_ok A sN) (hL : LD_ A C nC sN S h) {w k p f th g s e : Nat} (hp : p < sN) (hf : f < 512) (hth : th < nLaid A) (hg : g ≤ sN) (hse : s ≤ e) (he : e < 100) (hw8 : w < 8) (hst : hp_I h 254 w = nI k) (hwk : wk_ (hp_I h 255) (hp_I h 256) (hp_I h 257) w k) : Ctr G 6 yX4_fitsAt cX4_fitsAt 9 (some .int) [.ref 241, .int (nI w), .int (nI p), .int (nI f), .int (nI th), .int (nI g), .int (nI s), .int (nI e)] h 0 0 (fun q h1 => q = some (.int (ft_ (fun s => run_ A C nC sN S (hp_I h 255) (hp_I h 256) (hp_I h 257) w k (2 ^ p ||| f) p (wh_ A th (nI s) (nMov A)).toNatClampNeg g s e) s (e + 1 - s))) ∧ r6_ h h1) := by
  refine ctr_of (own := RX4) (nm := "fitsAt") (by decide) (Nat.le_of_ble_eq_true rfl) ?_
  have hm := hL.1
  have hs := hL.2.1
  have hA := hL.2.2.1
  have h3 := sv_s hv
  refine v_iload dX4_fitsAt_0 rfl ?_
  refine v_istore dX4_fitsAt_2 (by decide) ?_
  refine v_loc2 (by repeat' (first | with_reducible exact lsub_n | with_reducible refine lsub_c ?_ ?_ | with_reducible refine lk_hit ?_ | with_reducible refine lk_miss (by decide) ?_ ?_ | exact rfl)) (v_lp2 (fun (j : Nat) (hh : AH) => e + 1 - j) (fun (j : Nat) (hh : AH) => (s ≤ j ∧ j ≤ e + 1) ∧ r6_ h hh ∧ ft_ (fun s => run_ A C nC sN S (hp_I h 255) (hp_I h 256) (hp_I h 257) w k (2 ^ p ||| f) p (wh_ A th (nI s) (nMov A)).toNatClampNeg g s e) s (e + 1 - s) = ft_ (fun s => run_ A C nC sN S (hp_I h 255) (hp_I h 256) (hp_I h 257) w k (2 ^ p ||| f) p (wh_ A th (nI s) (nMov A)).toNatClampNeg g s e) j (e + 1 - j)) (fun (j : Nat) (hh : AH) => [(0, .ref 241), (1, .int (nI w)), (2, .int (nI p)), (3, .int (nI f)), (4, .int (nI th)), (5, .int (nI g)), (6, .int (nI s)), (7, .int (nI e)), (8, .int (nI j))]) (fun (j : Nat) (hh : AH) => hh) ?_ s _ ⟨⟨Nat.le_refl _, by omega⟩, r6_rf h, rfl⟩)
  intro j hh hI IH
  obtain ⟨⟨hJ1, hJ2⟩, hr, hft⟩ := hI
  have hm : MI hh := r6_m hr hL.1
  refine v_iload dX4_fitsAt_4 rfl ?_
  refine v_iload dX4_fitsAt_6 rfl ?_
  refine v_icmp_gt (tgt := 38) dX4_fitsAt_8 (by decide) (fun b8 => ?_) (fun b8 => ?_)
  · skip
    rw [nI_ltI (by omega) (by omega)] at b8
    refine v_iconst (v := (-1)) dX4_fitsAt_38 (by decide) ?_
    rw [show e + 1 - j = 0 by omega, ft_z] at hft
    refine v_reti dX4_fitsAt_39 rfl ⟨congrArg (fun z => some (Value.int z)) hft.symm, hr⟩
  · skip
    rw [nI_ltI (by omega) (by omega)] at b8
    have hj9 : j ≤ e := by omega
    refine v_aload_n dX4_fitsAt_11 rfl rfl ?_
    refine v_iload_n dX4_fitsAt_12 rfl rfl ?_
    refine v_iload_n dX4_fitsAt_13 rfl rfl ?_
    refine v_iload_n dX4_fitsAt_14 rfl rfl ?_
    refine v_iload dX4_fitsAt_15 rfl ?_
    refine v_iload dX4_fitsAt_17 rfl ?_
    refine v_iload dX4_fitsAt_19 rfl ?_
    refine v_iload dX4_fitsAt_21 rfl ?_
    refine v_zV mtX4_runs q2008 q2010 qs87 rfl (by decide) dX4_fitsAt_23 (c_X4_runs (k := k) (s := j) hv (r6_LD hL hr) hp hf hth hg (by omega) he hw8 (by rw [hr.2.2.2.2.1 254 (by decide)]; exact hst) (by rw [hr.2.2.2.2.1 255 (by decide), hr.2.2.2.2.1 256 (by decide), hr.2.2.2.2.1 257 (by decide)]; exact hwk)) (mK_obj hm) (by decide) (fun r23 h23 q23 z23 => ?_)
    obtain ⟨rfl, hr2⟩ := q23
    rw [hr.2.2.2.2.1 255 (by decide), hr.2.2.2.2.1 256 (by decide), hr.2.2.2.2.1 257 (by decide)]
    have hr9 := r6_tr hr hr2
    refine v_if_eq (tgt := 32) dX4_fitsAt_26 (by decide) (fun b26 => ?_) (fun b26 => ?_)
    · skip
      refine v_iinc dX4_fitsAt_32 rfl (by first | with_reducible exact nI_inc _ | exact rfl) (by decide) ?_
      refine v_goto (tgt := 4) dX4_fitsAt_35 (by decide) ?_
      have hft2 := hft
      rw [show e + 1 - j = (e + 1 - (j + 1)) + 1 by omega, ft_s, cf_f (b2c_0.mp b26)] at hft2
      refine v_loc2 (by repeat' (first | with_reducible exact lsub_n | with_reducible refine lsub_c ?_ ?_ | with_reducible refine lk_hit ?_ | with_reducible refine lk_miss (by decide) ?_ ?_ | exact rfl)) (IH (j + 1) _ ⟨⟨by omega, by omega⟩, hr9, hft2⟩ (by omega))
    · skip
      refine v_iload dX4_fitsAt_29 rfl ?_
      rw [show e + 1 - j = (e + 1 - (j + 1)) + 1 by omega, ft_s, cf_t (b2c_n0.mp b26)] at hft
      refine v_reti dX4_fitsAt_31 rfl ⟨congrArg (fun z => some (Value.int z)) hft.symm, hr9⟩

