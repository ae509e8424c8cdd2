set_option maxRecDepth 100000
/-- so many of the reference's arrays are laid -/
def IN_ (h0 : AH) (k : Nat) (v : Int32) (h : AH) : Prop := hp_n h = 242 + k ∧ (∀ p, p < 241 → hp_K h p = hp_K h0 p ∧ hp_I h p = hp_I h0 p ∧ hp_L h p = hp_L h0 p ∧ hp_R h p = hp_R h0 p) ∧ (∀ i, i ≤ k → hp_K h (241 + i) = mK_l.getD i (999, 0)) ∧ (∀ j, j < k → hp_R h 241 (mR_l.getD j (0, 0)).1 = some (242 + j)) ∧ (∀ p, 241 < p → p < 242 + k → ∀ q, hp_I h p q = 0 ∧ hp_L h p q = 0) ∧ (∀ f, f ≠ 4 → f ≠ 35 → hp_I h 241 f = 0) ∧ hp_I h 241 35 = v ∧ ∀ f, hp_L h 241 f = 0
theorem mR_nd : ∀ i, i < 31 → ∀ j, j < 31 → (mR_l.getD i (0, 0)).1 = (mR_l.getD j (0, 0)).1 → i = j := by decide
theorem mR_at : ∀ i, i < 31 → (mR_l.getD i (0, 0)).2 = 242 + i := by decide
theorem IN_K {h0 h : AH} {k : Nat} {v : Int32} (a : IN_ h0 k v h) {t : Nat × Nat} : hp_K (hp_new h t) 241 = (0, 0) := by
  show (if 241 = h.1 then t else hp_K h 241) = _
  rw [if_neg (by have : h.1 = 242 + k := a.1; omega)]
  exact a.2.2.1 0 (Nat.zero_le _)
theorem IN_s {h0 h : AH} {k : Nat} {v : Int32} (a : IN_ h0 k v h) (hk : k < 31) {t : Nat × Nat} {f : Nat} (ht : mK_l.getD (k + 1) (999, 0) = t) (hf : (mR_l.getD k (0, 0)).1 = f) : IN_ h0 (k + 1) v (up_R (hp_new h t) 241 f (some (hp_n h))) := by
  obtain ⟨a1, a2, a3, a4, a5, a6, a7, a8⟩ := a
  have a1' : h.1 = 242 + k := a1
  refine ⟨by show h.1 + 1 = _; omega, fun p hp => ?_, fun i hi => ?_, fun j hj => ?_, fun p h1 h2 q => ?_, fun g h1 h2 => ?_, ?_, fun g => ?_⟩
  · have e : ¬ p = h.1 := by omega
    refine ⟨(if_neg e).trans (a2 p hp).1, (funext fun j => (if_neg e).trans (congrFun (a2 p hp).2.1 j)), (funext fun j => (if_neg e).trans (congrFun (a2 p hp).2.2.1 j)), funext fun j => ?_⟩
    rw [hp_R_R, if_neg (by omega)]
    exact (if_neg e).trans (congrFun (a2 p hp).2.2.2 j)
  · show (if 241 + i = h.1 then t else hp_K h (241 + i)) = _
    by_cases e : i = k + 1
    · subst e; rw [if_pos (by omega)]; exact ht.symm
    · rw [if_neg (by omega)]; exact a3 i (by omega)
  · rw [hp_R_R]
    by_cases e : j = k
    · subst e; rw [if_pos ⟨rfl, hf⟩, a1]
    · rw [if_neg (fun z => e (mR_nd j (by omega) k hk (z.2.trans hf.symm)))]
      exact (if_neg (show ¬ 241 = h.1 by omega)).trans (a4 j (by omega))
  · by_cases e : p = h.1
    · exact ⟨if_pos e, if_pos e⟩
    · exact ⟨(if_neg e).trans (a5 p h1 (by omega) q).1, (if_neg e).trans (a5 p h1 (by omega) q).2⟩
  · exact (if_neg (show ¬ 241 = h.1 by omega)).trans (a6 g h1 h2)
  · exact (if_neg (show ¬ 241 = h.1 by omega)).trans a7
  · exact (if_neg (show ¬ 241 = h.1 by omega)).trans (a8 g)
theorem IN_f {h0 h : AH} {k : Nat} {v x : Int32} (a : IN_ h0 k v h) : IN_ h0 k v (up_I h 241 4 x) := by
  obtain ⟨a1, a2, a3, a4, a5, a6, a7, a8⟩ := a
  refine ⟨a1, fun p hp => ?_, a3, a4, fun p h1 h2 q => ?_, fun g h1 h2 => ?_, ?_, a8⟩
  · rw [II_n (by omega)]; exact a2 p hp
  · rw [II_n (by omega)]; exact a5 p h1 h2 q
  · rw [hp_I_I, if_neg (fun z => h1 z.2)]; exact a6 g h1 h2
  · rw [hp_I_I, if_neg (by decide)]; exact a7
theorem IN_p {h0 h : AH} {k : Nat} {v x : Int32} (a : IN_ h0 k v h) : IN_ h0 k x (up_I h 241 35 x) := by
  obtain ⟨a1, a2, a3, a4, a5, a6, a7, a8⟩ := a
  refine ⟨a1, fun p hp => ?_, a3, a4, fun p h1 h2 q => ?_, fun g h1 h2 => ?_, ?_, a8⟩
  · rw [II_n (by omega)]; exact a2 p hp
  · rw [II_n (by omega)]; exact a5 p h1 h2 q
  · rw [hp_I_I, if_neg (fun z => h2 z.2)]; exact a6 g h1 h2
  · rw [hp_I_I, if_pos ⟨rfl, rfl⟩]
theorem IN_MI {h0 h : AH} {v : Int32} (a : IN_ h0 31 v h) : MI h := by
  refine ⟨fun i hi => a.2.2.1 i (by omega), fun f p hp => ?_⟩
  have key : ∀ q ∈ mR_l, ∃ j, j < 31 ∧ mR_l.getD j (0, 0) = q := by decide
  obtain ⟨j, h1, h2⟩ := key (f, p) hp
  have h3 := a.2.2.2.1 j h1
  have h4 := mR_at j h1
  rw [h2] at h3 h4
  rw [h3]
  exact congrArg some h4.symm
set_option maxHeartbeats 2000000 in
theorem c_X4_init {G : Gv} {h : AH} (hn : hp_n h = 242) (hK : hp_K h 241 = (0, 0)) (hz : ∀ f, hp_I h 241 f = 0 ∧ hp_L h 241 f = 0) : Ctr G 3 yX4_init cX4_init 1 none [.ref 241] h 31 30385 (fun q h1 => q = none ∧ ∃ hx, IN_ h 31 (-1) hx ∧ h1 = bg_ hx 3) := by
  refine ctr_of (own := RX4) (nm := "<init>") (by decide) (Nat.le_of_ble_eq_true rfl) ?_
  refine v_aload_n dX4_init_0 rfl rfl ?_
  refine v_objI (ci := 0) (C := "") (T := TX4) (N := 0) q1592 q171 q172 dX4_init_1 (by first | decide | omega) ?_
  have hI0 : IN_ h 0 0 h := ⟨hn, fun p hp => ⟨rfl, rfl, rfl, rfl⟩, fun i hi => by obtain rfl : i = 0 := (by omega); exact hK, fun j hj => absurd hj (Nat.not_lt_zero j), fun p h1 h2 => by omega, fun f _ _ => (hz f).1, (hz 35).1, fun f => (hz f).2⟩
  refine v_aload_n dX4_init_4 rfl rfl ?_
  refine v_bipush (v := 6) dX4_init_5 (by decide) ?_
  refine v_newI (N := 6) (mc := 30) (ms := 30379) dX4_init_7 (ix_lit _) (by decide) ?_
  refine v_putR (ty := .array .int) fX4_7 (.inr ⟨rfl, rfl, rfl, rfl⟩) dX4_init_9 (IN_K hI0) (by decide +kernel) rfl rfl ?_
  have hI1 := IN_s hI0 (k := 0) (by decide) (t := (100 + 0, 6)) (f := 1) rfl rfl
  generalize hg1 : up_R (hp_new h (100 + 0, 6)) 241 1 (some (hp_n h)) = hx1 at hI1 ⊢
  clear hg1
  refine v_aload_n dX4_init_12 rfl rfl ?_
  refine v_sipush (v := 19560) dX4_init_13 (by decide) ?_
  refine v_newI (N := 19560) (mc := 29) (ms := 10819) dX4_init_16 (ix_lit _) (by decide) ?_
  refine v_putR (ty := .array .int) fX4_17 (.inr ⟨rfl, rfl, rfl, rfl⟩) dX4_init_18 (IN_K hI1) (by decide +kernel) rfl rfl ?_
  have hI2 := IN_s hI1 (k := 1) (by decide) (t := (100 + 0, 19560)) (f := 2) rfl rfl
  generalize hg2 : up_R (hp_new hx1 (100 + 0, 19560)) 241 2 (some (hp_n hx1)) = hx2 at hI2 ⊢
  clear hg2
  refine v_aload_n dX4_init_21 rfl rfl ?_
  refine v_iconst (v := 3) dX4_init_22 (by decide) ?_
  refine v_newZ (N := 3) (mc := 28) (ms := 10816) dX4_init_23 (ix_lit _) (by decide) ?_
  refine v_putR (ty := .array .boolean) fX4_20 (.inr ⟨rfl, rfl, rfl, rfl⟩) dX4_init_25 (IN_K hI2) (by decide +kernel) rfl rfl ?_
  have hI3 := IN_s hI2 (k := 2) (by decide) (t := (100 + 1, 3)) (f := 3) rfl rfl
  generalize hg3 : up_R (hp_new hx2 (100 + 1, 3)) 241 3 (some (hp_n hx2)) = hx3 at hI3 ⊢
  clear hg3
  refine v_aload_n dX4_init_28 rfl rfl ?_
  refine v_iconst (v := 3) dX4_init_29 (by decide) ?_
  refine v_putI fX4_24 (.inl rfl) dX4_init_30 (hI3.2.2.1 0 (Nat.zero_le _)) ?_
  have hIs := IN_f hI3 (x := 3)
  generalize hgs : up_I hx3 241 4 3 = hxs at hIs ⊢
  clear hgs
  refine v_aload_n dX4_init_33 rfl rfl ?_
  refine v_bipush (v := 100) dX4_init_34 (by decide) ?_
  refine v_newI (N := 100) (mc := 27) (ms := 10716) dX4_init_36 (ix_lit _) (by decide) ?_
  refine v_putR (ty := .array .int) fX4_27 (.inr ⟨rfl, rfl, rfl, rfl⟩) dX4_init_38 (IN_K hIs) (by decide +kernel) rfl rfl ?_
  have hI4 := IN_s hIs (k := 3) (by decide) (t := (100 + 0, 100)) (f := 5) rfl rfl
  generalize hg4 : up_R (hp_new hxs (100 + 0, 100)) 241 5 (some (hp_n hxs)) = hx4 at hI4 ⊢
  clear hg4
  refine v_aload_n dX4_init_41 rfl rfl ?_
  refine v_sipush (v := 1000) dX4_init_42 (by decide) ?_
  refine v_newI (N := 1000) (mc := 26) (ms := 9716) dX4_init_45 (ix_lit _) (by decide) ?_
  refine v_putR (ty := .array .int) fX4_30 (.inr ⟨rfl, rfl, rfl, rfl⟩) dX4_init_47 (IN_K hI4) (by decide +kernel) rfl rfl ?_
  have hI5 := IN_s hI4 (k := 4) (by decide) (t := (100 + 0, 1000)) (f := 6) rfl rfl
  generalize hg5 : up_R (hp_new hx4 (100 + 0, 1000)) 241 6 (some (hp_n hx4)) = hx5 at hI5 ⊢
  clear hg5
  refine v_aload_n dX4_init_50 rfl rfl ?_
  refine v_sipush (v := 1000) dX4_init_51 (by decide) ?_
  refine v_newI (N := 1000) (mc := 25) (ms := 8716) dX4_init_54 (ix_lit _) (by decide) ?_
  refine v_putR (ty := .array .int) fX4_33 (.inr ⟨rfl, rfl, rfl, rfl⟩) dX4_init_56 (IN_K hI5) (by decide +kernel) rfl rfl ?_
  have hI6 := IN_s hI5 (k := 5) (by decide) (t := (100 + 0, 1000)) (f := 7) rfl rfl
  generalize hg6 : up_R (hp_new hx5 (100 + 0, 1000)) 241 7 (some (hp_n hx5)) = hx6 at hI6 ⊢
  clear hg6
  refine v_aload_n dX4_init_59 rfl rfl ?_
  refine v_sipush (v := 1800) dX4_init_60 (by decide) ?_
  refine v_newI (N := 1800) (mc := 24) (ms := 6916) dX4_init_63 (ix_lit _) (by decide) ?_
  refine v_putR (ty := .array .int) fX4_36 (.inr ⟨rfl, rfl, rfl, rfl⟩) dX4_init_65 (IN_K hI6) (by decide +kernel) rfl rfl ?_
  have hI7 := IN_s hI6 (k := 6) (by decide) (t := (100 + 0, 1800)) (f := 8) rfl rfl
  generalize hg7 : up_R (hp_new hx6 (100 + 0, 1800)) 241 8 (some (hp_n hx6)) = hx7 at hI7 ⊢
  clear hg7
  refine v_aload_n dX4_init_68 rfl rfl ?_
  refine v_sipush (v := 1800) dX4_init_69 (by decide) ?_
  refine v_newI (N := 1800) (mc := 23) (ms := 5116) dX4_init_72 (ix_lit _) (by decide) ?_
  refine v_putR (ty := .array .int) fX4_39 (.inr ⟨rfl, rfl, rfl, rfl⟩) dX4_init_74 (IN_K hI7) (by decide +kernel) rfl rfl ?_
  have hI8 := IN_s hI7 (k := 7) (by decide) (t := (100 + 0, 1800)) (f := 9) rfl rfl
  generalize hg8 : up_R (hp_new hx7 (100 + 0, 1800)) 241 9 (some (hp_n hx7)) = hx8 at hI8 ⊢
  clear hg8
  refine v_aload_n dX4_init_77 rfl rfl ?_
  refine v_bipush (v := 100) dX4_init_78 (by decide) ?_
  refine v_newI (N := 100) (mc := 22) (ms := 5016) dX4_init_80 (ix_lit _) (by decide) ?_
  refine v_putR (ty := .array .int) fX4_42 (.inr ⟨rfl, rfl, rfl, rfl⟩) dX4_init_82 (IN_K hI8) (by decide +kernel) rfl rfl ?_
  have hI9 := IN_s hI8 (k := 8) (by decide) (t := (100 + 0, 100)) (f := 10) rfl rfl
  generalize hg9 : up_R (hp_new hx8 (100 + 0, 100)) 241 10 (some (hp_n hx8)) = hx9 at hI9 ⊢
  clear hg9
  refine v_aload_n dX4_init_85 rfl rfl ?_
  refine v_sipush (v := 1800) dX4_init_86 (by decide) ?_
  refine v_newZ (N := 1800) (mc := 21) (ms := 3216) dX4_init_89 (ix_lit _) (by decide) ?_
  refine v_putR (ty := .array .boolean) fX4_45 (.inr ⟨rfl, rfl, rfl, rfl⟩) dX4_init_91 (IN_K hI9) (by decide +kernel) rfl rfl ?_
  have hI10 := IN_s hI9 (k := 9) (by decide) (t := (100 + 1, 1800)) (f := 11) rfl rfl
  generalize hg10 : up_R (hp_new hx9 (100 + 1, 1800)) 241 11 (some (hp_n hx9)) = hx10 at hI10 ⊢
  clear hg10
  refine v_aload_n dX4_init_94 rfl rfl ?_
  refine v_sipush (v := 1800) dX4_init_95 (by decide) ?_
  refine v_newZ (N := 1800) (mc := 20) (ms := 1416) dX4_init_98 (ix_lit _) (by decide) ?_
  refine v_putR (ty := .array .boolean) fX4_48 (.inr ⟨rfl, rfl, rfl, rfl⟩) dX4_init_100 (IN_K hI10) (by decide +kernel) rfl rfl ?_
  have hI11 := IN_s hI10 (k := 10) (by decide) (t := (100 + 1, 1800)) (f := 12) rfl rfl
  generalize hg11 : up_R (hp_new hx10 (100 + 1, 1800)) 241 12 (some (hp_n hx10)) = hx11 at hI11 ⊢
  clear hg11
  refine v_aload_n dX4_init_103 rfl rfl ?_
  refine v_sipush (v := 400) dX4_init_104 (by decide) ?_
  refine v_newI (N := 400) (mc := 19) (ms := 1016) dX4_init_107 (ix_lit _) (by decide) ?_
  refine v_putR (ty := .array .int) fX4_51 (.inr ⟨rfl, rfl, rfl, rfl⟩) dX4_init_109 (IN_K hI11) (by decide +kernel) rfl rfl ?_
  have hI12 := IN_s hI11 (k := 11) (by decide) (t := (100 + 0, 400)) (f := 13) rfl rfl
  generalize hg12 : up_R (hp_new hx11 (100 + 0, 400)) 241 13 (some (hp_n hx11)) = hx12 at hI12 ⊢
  clear hg12
  refine v_aload_n dX4_init_112 rfl rfl ?_
  refine v_bipush (v := 16) dX4_init_113 (by decide) ?_
  refine v_newI (N := 16) (mc := 18) (ms := 1000) dX4_init_115 (ix_lit _) (by decide) ?_
  refine v_putR (ty := .array .int) fX4_54 (.inr ⟨rfl, rfl, rfl, rfl⟩) dX4_init_117 (IN_K hI12) (by decide +kernel) rfl rfl ?_
  have hI13 := IN_s hI12 (k := 12) (by decide) (t := (100 + 0, 16)) (f := 18) rfl rfl
  generalize hg13 : up_R (hp_new hx12 (100 + 0, 16)) 241 18 (some (hp_n hx12)) = hx13 at hI13 ⊢
  clear hg13
  refine v_aload_n dX4_init_120 rfl rfl ?_
  refine v_sipush (v := 128) dX4_init_121 (by decide) ?_
  refine v_newI (N := 128) (mc := 17) (ms := 872) dX4_init_124 (ix_lit _) (by decide) ?_
  refine v_putR (ty := .array .int) fX4_57 (.inr ⟨rfl, rfl, rfl, rfl⟩) dX4_init_126 (IN_K hI13) (by decide +kernel) rfl rfl ?_
  have hI14 := IN_s hI13 (k := 13) (by decide) (t := (100 + 0, 128)) (f := 19) rfl rfl
  generalize hg14 : up_R (hp_new hx13 (100 + 0, 128)) 241 19 (some (hp_n hx13)) = hx14 at hI14 ⊢
  clear hg14
  refine v_aload_n dX4_init_129 rfl rfl ?_
  refine v_sipush (v := 128) dX4_init_130 (by decide) ?_
  refine v_newI (N := 128) (mc := 16) (ms := 744) dX4_init_133 (ix_lit _) (by decide) ?_
  refine v_putR (ty := .array .int) fX4_60 (.inr ⟨rfl, rfl, rfl, rfl⟩) dX4_init_135 (IN_K hI14) (by decide +kernel) rfl rfl ?_
  have hI15 := IN_s hI14 (k := 14) (by decide) (t := (100 + 0, 128)) (f := 20) rfl rfl
  generalize hg15 : up_R (hp_new hx14 (100 + 0, 128)) 241 20 (some (hp_n hx14)) = hx15 at hI15 ⊢
  clear hg15
  refine v_aload_n dX4_init_138 rfl rfl ?_
  refine v_sipush (v := 128) dX4_init_139 (by decide) ?_
  refine v_newI (N := 128) (mc := 15) (ms := 616) dX4_init_142 (ix_lit _) (by decide) ?_
  refine v_putR (ty := .array .int) fX4_63 (.inr ⟨rfl, rfl, rfl, rfl⟩) dX4_init_144 (IN_K hI15) (by decide +kernel) rfl rfl ?_
  have hI16 := IN_s hI15 (k := 15) (by decide) (t := (100 + 0, 128)) (f := 21) rfl rfl
  generalize hg16 : up_R (hp_new hx15 (100 + 0, 128)) 241 21 (some (hp_n hx15)) = hx16 at hI16 ⊢
  clear hg16
  refine v_aload_n dX4_init_147 rfl rfl ?_
  refine v_bipush (v := 8) dX4_init_148 (by decide) ?_
  refine v_newJ (N := 8) (mc := 14) (ms := 608) dX4_init_150 (ix_lit _) (by decide) ?_
  refine v_putR (ty := .array .long) fX4_66 (.inr ⟨rfl, rfl, rfl, rfl⟩) dX4_init_152 (IN_K hI16) (by decide +kernel) rfl rfl ?_
  have hI17 := IN_s hI16 (k := 16) (by decide) (t := (100 + 3, 8)) (f := 22) rfl rfl
  generalize hg17 : up_R (hp_new hx16 (100 + 3, 8)) 241 22 (some (hp_n hx16)) = hx17 at hI17 ⊢
  clear hg17
  refine v_aload_n dX4_init_155 rfl rfl ?_
  refine v_iconst (v := (-1)) dX4_init_156 (by decide) ?_
  refine v_putI fX4_70 (.inl rfl) dX4_init_157 (hI17.2.2.1 0 (Nat.zero_le _)) ?_
  have hIp := IN_p hI17 (x := -1)
  generalize hgp : up_I hx17 241 35 (-1) = hxp at hIp ⊢
  clear hgp
  refine v_aload_n dX4_init_160 rfl rfl ?_
  refine v_sipush (v := 210) dX4_init_161 (by decide) ?_
  refine v_newI (N := 210) (mc := 13) (ms := 398) dX4_init_164 (ix_lit _) (by decide) ?_
  refine v_putR (ty := .array .int) fX4_73 (.inr ⟨rfl, rfl, rfl, rfl⟩) dX4_init_166 (IN_K hIp) (by decide +kernel) rfl rfl ?_
  have hI18 := IN_s hIp (k := 17) (by decide) (t := (100 + 0, 210)) (f := 43) rfl rfl
  generalize hg18 : up_R (hp_new hxp (100 + 0, 210)) 241 43 (some (hp_n hxp)) = hx18 at hI18 ⊢
  clear hg18
  refine v_aload_n dX4_init_169 rfl rfl ?_
  refine v_bipush (v := 110) dX4_init_170 (by decide) ?_
  refine v_newI (N := 110) (mc := 12) (ms := 288) dX4_init_172 (ix_lit _) (by decide) ?_
  refine v_putR (ty := .array .int) fX4_76 (.inr ⟨rfl, rfl, rfl, rfl⟩) dX4_init_174 (IN_K hI18) (by decide +kernel) rfl rfl ?_
  have hI19 := IN_s hI18 (k := 18) (by decide) (t := (100 + 0, 110)) (f := 44) rfl rfl
  generalize hg19 : up_R (hp_new hx18 (100 + 0, 110)) 241 44 (some (hp_n hx18)) = hx19 at hI19 ⊢
  clear hg19
  refine v_aload_n dX4_init_177 rfl rfl ?_
  refine v_bipush (v := 110) dX4_init_178 (by decide) ?_
  refine v_newI (N := 110) (mc := 11) (ms := 178) dX4_init_180 (ix_lit _) (by decide) ?_
  refine v_putR (ty := .array .int) fX4_79 (.inr ⟨rfl, rfl, rfl, rfl⟩) dX4_init_182 (IN_K hI19) (by decide +kernel) rfl rfl ?_
  have hI20 := IN_s hI19 (k := 19) (by decide) (t := (100 + 0, 110)) (f := 45) rfl rfl
  generalize hg20 : up_R (hp_new hx19 (100 + 0, 110)) 241 45 (some (hp_n hx19)) = hx20 at hI20 ⊢
  clear hg20
  refine v_aload_n dX4_init_185 rfl rfl ?_
  refine v_bipush (v := 30) dX4_init_186 (by decide) ?_
  refine v_newI (N := 30) (mc := 10) (ms := 148) dX4_init_188 (ix_lit _) (by decide) ?_
  refine v_putR (ty := .array .int) fX4_82 (.inr ⟨rfl, rfl, rfl, rfl⟩) dX4_init_190 (IN_K hI20) (by decide +kernel) rfl rfl ?_
  have hI21 := IN_s hI20 (k := 20) (by decide) (t := (100 + 0, 30)) (f := 46) rfl rfl
  generalize hg21 : up_R (hp_new hx20 (100 + 0, 30)) 241 46 (some (hp_n hx20)) = hx21 at hI21 ⊢
  clear hg21
  refine v_aload_n dX4_init_193 rfl rfl ?_
  refine v_bipush (v := 8) dX4_init_194 (by decide) ?_
  refine v_newI (N := 8) (mc := 9) (ms := 140) dX4_init_196 (ix_lit _) (by decide) ?_
  refine v_putR (ty := .array .int) fX4_85 (.inr ⟨rfl, rfl, rfl, rfl⟩) dX4_init_198 (IN_K hI21) (by decide +kernel) rfl rfl ?_
  have hI22 := IN_s hI21 (k := 21) (by decide) (t := (100 + 0, 8)) (f := 49) rfl rfl
  generalize hg22 : up_R (hp_new hx21 (100 + 0, 8)) 241 49 (some (hp_n hx21)) = hx22 at hI22 ⊢
  clear hg22
  refine v_aload_n dX4_init_201 rfl rfl ?_
  refine v_bipush (v := 8) dX4_init_202 (by decide) ?_
  refine v_newI (N := 8) (mc := 8) (ms := 132) dX4_init_204 (ix_lit _) (by decide) ?_
  refine v_putR (ty := .array .int) fX4_88 (.inr ⟨rfl, rfl, rfl, rfl⟩) dX4_init_206 (IN_K hI22) (by decide +kernel) rfl rfl ?_
  have hI23 := IN_s hI22 (k := 22) (by decide) (t := (100 + 0, 8)) (f := 50) rfl rfl
  generalize hg23 : up_R (hp_new hx22 (100 + 0, 8)) 241 50 (some (hp_n hx22)) = hx23 at hI23 ⊢
  clear hg23
  refine v_aload_n dX4_init_209 rfl rfl ?_
  refine v_bipush (v := 8) dX4_init_210 (by decide) ?_
  refine v_newI (N := 8) (mc := 7) (ms := 124) dX4_init_212 (ix_lit _) (by decide) ?_
  refine v_putR (ty := .array .int) fX4_91 (.inr ⟨rfl, rfl, rfl, rfl⟩) dX4_init_214 (IN_K hI23) (by decide +kernel) rfl rfl ?_
  have hI24 := IN_s hI23 (k := 23) (by decide) (t := (100 + 0, 8)) (f := 51) rfl rfl
  generalize hg24 : up_R (hp_new hx23 (100 + 0, 8)) 241 51 (some (hp_n hx23)) = hx24 at hI24 ⊢
  clear hg24
  refine v_aload_n dX4_init_217 rfl rfl ?_
  refine v_bipush (v := 8) dX4_init_218 (by decide) ?_
  refine v_newI (N := 8) (mc := 6) (ms := 116) dX4_init_220 (ix_lit _) (by decide) ?_
  refine v_putR (ty := .array .int) fX4_94 (.inr ⟨rfl, rfl, rfl, rfl⟩) dX4_init_222 (IN_K hI24) (by decide +kernel) rfl rfl ?_
  have hI25 := IN_s hI24 (k := 24) (by decide) (t := (100 + 0, 8)) (f := 52) rfl rfl
  generalize hg25 : up_R (hp_new hx24 (100 + 0, 8)) 241 52 (some (hp_n hx24)) = hx25 at hI25 ⊢
  clear hg25
  refine v_aload_n dX4_init_225 rfl rfl ?_
  refine v_bipush (v := 8) dX4_init_226 (by decide) ?_
  refine v_newI (N := 8) (mc := 5) (ms := 108) dX4_init_228 (ix_lit _) (by decide) ?_
  refine v_putR (ty := .array .int) fX4_97 (.inr ⟨rfl, rfl, rfl, rfl⟩) dX4_init_230 (IN_K hI25) (by decide +kernel) rfl rfl ?_
  have hI26 := IN_s hI25 (k := 25) (by decide) (t := (100 + 0, 8)) (f := 53) rfl rfl
  generalize hg26 : up_R (hp_new hx25 (100 + 0, 8)) 241 53 (some (hp_n hx25)) = hx26 at hI26 ⊢
  clear hg26
  refine v_aload_n dX4_init_233 rfl rfl ?_
  refine v_bipush (v := 8) dX4_init_234 (by decide) ?_
  refine v_newI (N := 8) (mc := 4) (ms := 100) dX4_init_236 (ix_lit _) (by decide) ?_
  refine v_putR (ty := .array .int) fX4_100 (.inr ⟨rfl, rfl, rfl, rfl⟩) dX4_init_238 (IN_K hI26) (by decide +kernel) rfl rfl ?_
  have hI27 := IN_s hI26 (k := 26) (by decide) (t := (100 + 0, 8)) (f := 54) rfl rfl
  generalize hg27 : up_R (hp_new hx26 (100 + 0, 8)) 241 54 (some (hp_n hx26)) = hx27 at hI27 ⊢
  clear hg27
  refine v_aload_n dX4_init_241 rfl rfl ?_
  refine v_bipush (v := 72) dX4_init_242 (by decide) ?_
  refine v_newZ (N := 72) (mc := 3) (ms := 28) dX4_init_244 (ix_lit _) (by decide) ?_
  refine v_putR (ty := .array .boolean) fX4_103 (.inr ⟨rfl, rfl, rfl, rfl⟩) dX4_init_246 (IN_K hI27) (by decide +kernel) rfl rfl ?_
  have hI28 := IN_s hI27 (k := 27) (by decide) (t := (100 + 1, 72)) (f := 55) rfl rfl
  generalize hg28 : up_R (hp_new hx27 (100 + 1, 72)) 241 55 (some (hp_n hx27)) = hx28 at hI28 ⊢
  clear hg28
  refine v_aload_n dX4_init_249 rfl rfl ?_
  refine v_bipush (v := 9) dX4_init_250 (by decide) ?_
  refine v_newI (N := 9) (mc := 2) (ms := 19) dX4_init_252 (ix_lit _) (by decide) ?_
  refine v_putR (ty := .array .int) fX4_106 (.inr ⟨rfl, rfl, rfl, rfl⟩) dX4_init_254 (IN_K hI28) (by decide +kernel) rfl rfl ?_
  have hI29 := IN_s hI28 (k := 28) (by decide) (t := (100 + 0, 9)) (f := 57) rfl rfl
  generalize hg29 : up_R (hp_new hx28 (100 + 0, 9)) 241 57 (some (hp_n hx28)) = hx29 at hI29 ⊢
  clear hg29
  refine v_aload_n dX4_init_257 rfl rfl ?_
  refine v_bipush (v := 9) dX4_init_258 (by decide) ?_
  refine v_newI (N := 9) (mc := 1) (ms := 10) dX4_init_260 (ix_lit _) (by decide) ?_
  refine v_putR (ty := .array .int) fX4_109 (.inr ⟨rfl, rfl, rfl, rfl⟩) dX4_init_262 (IN_K hI29) (by decide +kernel) rfl rfl ?_
  have hI30 := IN_s hI29 (k := 29) (by decide) (t := (100 + 0, 9)) (f := 58) rfl rfl
  generalize hg30 : up_R (hp_new hx29 (100 + 0, 9)) 241 58 (some (hp_n hx29)) = hx30 at hI30 ⊢
  clear hg30
  refine v_aload_n dX4_init_265 rfl rfl ?_
  refine v_bipush (v := 10) dX4_init_266 (by decide) ?_
  refine v_newJ (N := 10) (mc := 0) (ms := 0) dX4_init_268 (ix_lit _) (by decide) ?_
  refine v_putR (ty := .array .long) fX4_112 (.inr ⟨rfl, rfl, rfl, rfl⟩) dX4_init_270 (IN_K hI30) (by decide +kernel) rfl rfl ?_
  have hI31 := IN_s hI30 (k := 30) (by decide) (t := (100 + 3, 10)) (f := 59) rfl rfl
  generalize hg31 : up_R (hp_new hx30 (100 + 3, 10)) 241 59 (some (hp_n hx30)) = hx31 at hI31 ⊢
  clear hg31
  have hm := IN_MI hI31
  refine v_aload_n dX4_init_273 rfl rfl ?_
  refine v_iconst (v := 3) dX4_init_274 (by decide) ?_
  refine v_zV mtX4_begins q1593 q1595 qs57 rfl (by decide) dX4_init_275 (c_X4_begins hm 3) (mK_obj hm) (by decide) (fun r275 h275 q275 z275 => ?_)
  obtain ⟨rfl, rfl⟩ := q275
  exact v_retv dX4_init_278 trivial ⟨rfl, hx31, hI31, rfl⟩

