set_option maxRecDepth 100000
/-- the number told by a token -/
noncomputable def nv_ (T : Nat → Nat) (n a : Nat) : Nat := nu_ T a (te_ T n a - a)
noncomputable def nw_9 (T : Nat → Nat) (n a : Nat) : Int64 := na_ T a (te_ T n a - a)
/-- the reader: its token begins at s.1, what is wrong, where -/
def RS_ (T : Nat → Nat) (n : Nat) (h : AH) (s : Nat × Nat × Nat) : Prop := MI h ∧ TP_ h T n ∧ s.1 ≤ n ∧ hp_I h 241 26 = nI s.1 ∧ hp_I h 241 27 = nI (te_ T n s.1) ∧ hp_I h 241 29 = nI (tk9_ T n s.1) ∧ (tk9_ T n s.1 = 13 → hp_I h 241 30 = nI (nv_ T n s.1)) ∧ (sm9_ T n s.1 → hp_L h 241 33 = nw_9 T n s.1) ∧ hp_I h 241 31 = nI s.2.1 ∧ (¬ s.2.1 = 0 → hp_I h 241 32 = nI s.2.2) ∧ s.2.1 < 6
noncomputable def pn_ (T : Nat → Nat) (n : Nat) (s : Nat × Nat × Nat) : Nat × Nat × Nat := (ta_ T n (te_ T n s.1), s.2.1, s.2.2)
noncomputable def pf_ (T : Nat → Nat) (n f : Nat) (s : Nat × Nat × Nat) : Nat × Nat × Nat := cf_ (s.2.1 = 0) (s.1, cf_ (tk9_ T n s.1 = 16) 1 f, s.1) s
def pi_ (T : Nat → Nat) (n k : Nat) (s : Nat × Nat × Nat) : Prop := s.2.1 = 0 ∧ tk9_ T n s.1 = k
noncomputable def pd_ (T : Nat → Nat) (n k : Nat) (s : Nat × Nat × Nat) : Nat × Nat × Nat := cf_ (pi_ T n k s) (pn_ T n s) (pf_ T n 2 s)
/-- a number is read: the state, ahead of going on -/
noncomputable def pr_0 (T : Nat → Nat) (n lo hi : Nat) (s : Nat × Nat × Nat) : Nat × Nat × Nat := cf_ (¬ pi_ T n 13 s) (pf_ T n 2 s) (cf_ (¬ (lo ≤ nv_ T n s.1 ∧ nv_ T n s.1 ≤ hi)) (pf_ T n 3 s) s)
noncomputable def pr_9 (T : Nat → Nat) (n lo hi : Nat) (s : Nat × Nat × Nat) : Nat × Nat × Nat := cf_ ((pr_0 T n lo hi s).2.1 = 0) (pn_ T n (pr_0 T n lo hi s)) (pr_0 T n lo hi s)
noncomputable def ps_9 (T : Nat → Nat) (n : Nat) (s : Nat × Nat × Nat) : Nat × Nat × Nat := cf_ (pi_ T n 10 s ∨ pi_ T n 11 s) (pn_ T n s) (pf_ T n 2 s)
/-- what the reader changes -/
def rd_9 (h h' : AH) : Prop := hp_n h' = hp_n h ∧ hp_K h' = hp_K h ∧ hp_R h' = hp_R h ∧ (∀ p, p ≠ 241 → hp_I h' p = hp_I h p) ∧ (∀ f, f < 26 ∨ f = 28 ∨ 32 < f → hp_I h' 241 f = hp_I h 241 f) ∧ ∀ p, p ≠ 241 → hp_L h' p = hp_L h p
theorem rd_rf (h : AH) : rd_9 h h := ⟨rfl, rfl, rfl, fun _ _ => rfl, fun _ _ => rfl, fun _ _ => rfl⟩
theorem rd_tr {h h1 h2 : AH} (a : rd_9 h h1) (b : rd_9 h1 h2) : rd_9 h h2 := ⟨b.1.trans a.1, b.2.1.trans a.2.1, b.2.2.1.trans a.2.2.1, fun p hp => (b.2.2.2.1 p hp).trans (a.2.2.2.1 p hp), fun f hf => (b.2.2.2.2.1 f hf).trans (a.2.2.2.2.1 f hf), fun p hp => (b.2.2.2.2.2 p hp).trans (a.2.2.2.2.2 p hp)⟩
theorem rd_ne {h h1 : AH} (a : ne_ h h1) : rd_9 h h1 := ⟨a.1, a.2.1, a.2.2.1, a.2.2.2.1, fun f hf => a.2.2.2.2.1 f (by omega), a.2.2.2.2.2⟩
theorem rd_f {h h1 : AH} {f : Nat} {v : Int32} (a : rd_9 h h1) (hf : f = 31 ∨ f = 32) : rd_9 h (up_I h1 241 f v) := ⟨a.1, a.2.1, a.2.2.1, fun p hp => by rw [II_n hp]; exact a.2.2.2.1 p hp, fun g hg => by rw [hp_I_I, if_neg (by omega)]; exact a.2.2.2.2.1 g hg, a.2.2.2.2.2⟩
theorem RS_w {T : Nat → Nat} {n : Nat} {h : AH} {s : Nat × Nat × Nat} (a : RS_ T n h s) {w wa : Nat} (hw : w < 6) : RS_ T n (up_I (up_I h 241 31 (nI w)) 241 32 (nI wa)) (s.1, w, wa) := by
  obtain ⟨h1, ⟨t1, t2, t3⟩, h3, h4, h5, h6, h7, h8, h9, h10, h11⟩ := a
  refine ⟨h1, ⟨t1, t2, fun k hk => ?_⟩, h3, h4, h5, h6, h7, h8, by rw [hp_I_I, if_neg (by decide), hp_I_I, if_pos ⟨rfl, rfl⟩], fun _ => by rw [hp_I_I, if_pos ⟨rfl, rfl⟩], hw⟩
  rw [II_n (by decide), II_n (by decide)]
  exact t3 k hk
theorem tk_dg {T : Nat → Nat} {n a : Nat} (h : tk9_ T n a = 13) : dg9_ T n a := by
  refine Classical.byContradiction fun z => ?_
  unfold tk9_ at h
  by_cases h1 : n ≤ a
  · rw [cf_t h1] at h; omega
  · rw [cf_f h1] at h
    by_cases h2 : sm9_ T n a
    · rw [cf_t h2] at h
      by_cases h3 : 8 < te_ T n a - a
      · rw [cf_t h3] at h; omega
      · rw [cf_f h3] at h; have := ky_le T a (te_ T n a); omega
    · rw [cf_f h2, cf_f z] at h
      by_cases h4 : T a = 59
      · rw [cf_t h4] at h; omega
      · rw [cf_f h4] at h; omega
theorem tk_le (T : Nat → Nat) (n a : Nat) : tk9_ T n a ≤ 16 := by
  unfold tk9_
  by_cases h1 : n ≤ a
  · rw [cf_t h1]; omega
  · rw [cf_f h1]
    by_cases h2 : sm9_ T n a
    · rw [cf_t h2]
      by_cases h3 : 8 < te_ T n a - a
      · rw [cf_t h3]; omega
      · rw [cf_f h3]; have := ky_le T a (te_ T n a); omega
    · rw [cf_f h2]
      by_cases h3 : dg9_ T n a
      · rw [cf_t h3]
        by_cases h4 : 3 < te_ T n a - a
        · rw [cf_t h4]; omega
        · rw [cf_f h4]; omega
      · rw [cf_f h3]
        by_cases h4 : T a = 59
        · rw [cf_t h4]; omega
        · rw [cf_f h4]; omega
theorem RS_nx {T : Nat → Nat} {n : Nat} {h h1 : AH} {s : Nat × Nat × Nat} (a : RS_ T n h s) (x : NX_ T n (te_ T n s.1) h h1) : RS_ T n h1 (pn_ T n s) := by
  obtain ⟨h1, h2, h3, h4, h5, h6, h7, h8, h9, h10, h11⟩ := a
  obtain ⟨x1, x2, x3, x4, x5, x6, x7⟩ := x
  exact ⟨ne_m x1 h1, TP_ne x1 h2, (ta_ge (te_ge h3).2).2, x2, x3, x4, fun z => x5 (tk_dg z), x7, by rw [x1.2.2.2.2.1 31 (by omega)]; exact h9, fun z => by rw [x1.2.2.2.2.1 32 (by omega)]; exact h10 z, h11⟩
theorem nv_lt {T : Nat → Nat} {n : Nat} {h : AH} {s : Nat × Nat × Nat} (a : RS_ T n h s) (z : tk9_ T n s.1 = 13) : nv_ T n s.1 < 1000 := by
  have hd := tk_dg z
  unfold nv_
  have e : te_ T n s.1 = re_ (dg9_ T n) n s.1 := by
    unfold te_
    rw [cf_f (fun y => by have := y.2; have := hd.2; omega), cf_t hd]
  have key : ∀ f k, (∀ j, j < k - s.1 → dg9_ T n (s.1 + j)) → s.1 ≤ k → ∀ j, j < ru_ (dg9_ T n) f k - s.1 → dg9_ T n (s.1 + j) := by
    intro f
    induction f with
    | zero => exact fun k h1 _ => h1
    | succ f ih =>
      intro k h1 h2
      by_cases y : dg9_ T n k
      · rw [show ru_ (dg9_ T n) (f + 1) k = ru_ (dg9_ T n) f (k + 1) from @if_pos _ (Classical.propDecidable _) y _ _ _]
        exact ih (k + 1) (fun j hj => by
          rcases Nat.lt_or_ge j (k - s.1) with u | u
          · exact h1 j u
          · rw [show s.1 + j = k by omega]; exact y) (by omega)
      · rw [show ru_ (dg9_ T n) (f + 1) k = k from @if_neg _ (Classical.propDecidable _) y _ _ _]
        exact h1
  have := @nu_lt T n s.1 (te_ T n s.1 - s.1) (fun j hj => by rw [e] at hj; exact key _ _ (fun j hj => by omega) (Nat.le_refl _) j hj)
  have h3 : 10 ^ (min (te_ T n s.1 - s.1) 3) ≤ 10 ^ 3 := Nat.pow_le_pow_right (by decide) (by omega)
  omega
theorem pf_lt {T : Nat → Nat} {n f : Nat} {s : Nat × Nat × Nat} (hs : s.2.1 < 6) (hf : f < 6) : (pf_ T n f s).2.1 < 6 := by
  unfold pf_
  by_cases z : s.2.1 = 0
  · rw [cf_t z]
    show cf_ (tk9_ T n s.1 = 16) 1 f < 6
    by_cases y : tk9_ T n s.1 = 16
    · rw [cf_t y]; omega
    · rw [cf_f y]; exact hf
  · rw [cf_f z]; exact hs
theorem c_X4_nextS {G : Gv} (hG : gs_ok G) {T : Nat → Nat} {n : Nat} {h : AH} {s : Nat × Nat × Nat} (hS : RS_ T n h s) : Ctr G 6 yX4_next cX4_next 1 none [.ref 241] h 0 0 (fun q h1 => q = none ∧ RS_ T n h1 (pn_ T n s) ∧ rd_9 h h1) :=
  c_X4_next0 hG hS.1 hS.2.1 hS.2.2.2.2.1 (te_ge hS.2.2.1).2 (fun h1' z => ⟨rfl, RS_nx hS z, rd_ne z.1⟩)
theorem c_X4_fails {G : Gv} {T : Nat → Nat} {n : Nat} {h : AH} {s : Nat × Nat × Nat} (hS : RS_ T n h s) {f : Nat} (hf : f < 6) : Ctr G 1 yX4_fails cX4_fails 2 none [.ref 241, .int (nI f)] h 0 0 (fun q h1 => q = none ∧ RS_ T n h1 (pf_ T n f s) ∧ rd_9 h h1) := by
  refine ctr_of (own := RX4) (nm := "fails") (by decide) (Nat.le_of_ble_eq_true rfl) ?_
  have hS0 := hS
  have hm := hS.1
  obtain ⟨-, hTp, hsn, hr26, hr27, hr29, hr30, hr33, hr31, hr32, hw6⟩ := hS
  have htl := tk_le T n s.1
  refine v_aload_n dX4_fails_0 rfl rfl ?_
  refine v_getI fX4_252 dX4_fails_1 (mK_obj hm) ?_
  rw [hr31]
  refine v_if_eq (tgt := 8) dX4_fails_4 (by decide) (fun b4 => ?_) (fun b4 => ?_)
  · skip
    rw [show (0 : Int32) = nI 0 from rfl, nI_eq (by omega) (by decide)] at b4
    refine v_aload_n dX4_fails_8 rfl rfl ?_
    refine v_aload_n dX4_fails_9 rfl rfl ?_
    refine v_getI fX4_229 dX4_fails_10 (mK_obj hm) ?_
    rw [hr29]
    refine v_bipush (v := nI 16) dX4_fails_13 (by decide) ?_
    refine v_icmp_ne (tgt := 22) dX4_fails_15 (by decide) (fun b15 => ?_) (fun b15 => ?_)
    · skip
      have hk : ¬ tk9_ T n s.1 = 16 := fun z => b15 (by rw [z])
      have hq : pf_ T n f s = (s.1, f, s.1) := by unfold pf_; rw [cf_t b4, cf_f hk]
      refine v_iload_n dX4_fails_22 rfl rfl ?_
      refine v_putI fX4_252 (.inl rfl) dX4_fails_23 (mK_obj hm) ?_
      refine v_aload_n dX4_fails_26 rfl rfl ?_
      refine v_aload_n dX4_fails_27 rfl rfl ?_
      refine v_getI fX4_220 dX4_fails_28 (mK_obj hm) ?_
      first | rw [show hp_I (up_I h 241 31 (nI 1)) 241 26 = nI s.1 from hr26] | rw [show hp_I (up_I h 241 31 (nI f)) 241 26 = nI s.1 from hr26]
      refine v_putI fX4_255 (.inl rfl) dX4_fails_31 (mK_obj hm) ?_
      exact v_retv dX4_fails_34 trivial ⟨rfl, by rw [hq]; exact RS_w hS0 (by omega), rd_f (rd_f (rd_rf h) (by omega)) (by omega)⟩
    · skip
      have hk : tk9_ T n s.1 = 16 := (nI_eq (by omega) (by decide)).mp b15
      have hq : pf_ T n f s = (s.1, 1, s.1) := by unfold pf_; rw [cf_t b4, cf_t hk]
      refine v_iconst (v := nI 1) dX4_fails_18 (by decide) ?_
      refine v_goto (tgt := 23) dX4_fails_19 (by decide) ?_
      refine v_putI fX4_252 (.inl rfl) dX4_fails_23 (mK_obj hm) ?_
      refine v_aload_n dX4_fails_26 rfl rfl ?_
      refine v_aload_n dX4_fails_27 rfl rfl ?_
      refine v_getI fX4_220 dX4_fails_28 (mK_obj hm) ?_
      first | rw [show hp_I (up_I h 241 31 (nI 1)) 241 26 = nI s.1 from hr26] | rw [show hp_I (up_I h 241 31 (nI f)) 241 26 = nI s.1 from hr26]
      refine v_putI fX4_255 (.inl rfl) dX4_fails_31 (mK_obj hm) ?_
      exact v_retv dX4_fails_34 trivial ⟨rfl, by rw [hq]; exact RS_w hS0 (by omega), rd_f (rd_f (rd_rf h) (by omega)) (by omega)⟩
  · skip
    rw [show (0 : Int32) = nI 0 from rfl, nI_eq (by omega) (by decide)] at b4
    have hq : pf_ T n f s = s := cf_f b4
    exact v_retv dX4_fails_7 trivial ⟨rfl, by rw [hq]; exact hS0, rd_rf h⟩

theorem c_X4_is {G : Gv} {T : Nat → Nat} {n : Nat} {h : AH} {s : Nat × Nat × Nat} (hS : RS_ T n h s) {k : Nat} (hk : k < 100) : Ctr G 1 yX4_is cX4_is 2 (some .boolean) [.ref 241, .int (nI k)] h 0 0 (Pu h (.int (b2c (pi_ T n k s)))) := by
  refine ctr_of (own := RX4) (nm := "is") (by decide) (Nat.le_of_ble_eq_true rfl) ?_
  have hS0 := hS
  have hm := hS.1
  obtain ⟨-, hTp, hsn, hr26, hr27, hr29, hr30, hr33, hr31, hr32, hw6⟩ := hS
  have htl := tk_le T n s.1
  refine v_aload_n dX4_is_0 rfl rfl ?_
  refine v_getI fX4_252 dX4_is_1 (mK_obj hm) ?_
  rw [hr31]
  refine v_if_ne (tgt := 19) dX4_is_4 (by decide) (fun b4 => ?_) (fun b4 => ?_)
  · skip
    rw [show (0 : Int32) = nI 0 from rfl, nI_eq (by omega) (by decide)] at b4
    have hq : ¬ pi_ T n k s := fun z => b4 z.1
    refine v_iconst (v := 0) dX4_is_19 (by decide) ?_
    refine v_reti dX4_is_20 (by first | rfl | exact rt_c | exact rt_z | exact Or.inr rfl) (Pu_i ?_)
    first | exact (b2c_t hq).symm | exact (b2c_f hq).symm
  · skip
    rw [show (0 : Int32) = nI 0 from rfl, nI_eq (by omega) (by decide)] at b4
    refine v_aload_n dX4_is_7 rfl rfl ?_
    refine v_getI fX4_229 dX4_is_8 (mK_obj hm) ?_
    rw [hr29]
    refine v_iload_n dX4_is_11 rfl rfl ?_
    refine v_icmp_ne (tgt := 19) dX4_is_12 (by decide) (fun b12 => ?_) (fun b12 => ?_)
    · skip
      rw [nI_eq (by omega) (by omega)] at b12
      have hq : ¬ pi_ T n k s := fun z => b12 z.2
      refine v_iconst (v := 0) dX4_is_19 (by decide) ?_
      refine v_reti dX4_is_20 (by first | rfl | exact rt_c | exact rt_z | exact Or.inr rfl) (Pu_i ?_)
      first | exact (b2c_t hq).symm | exact (b2c_f hq).symm
    · skip
      rw [nI_eq (by omega) (by omega)] at b12
      have hq : pi_ T n k s := ⟨b4, b12⟩
      refine v_iconst (v := 1) dX4_is_15 (by decide) ?_
      refine v_goto (tgt := 20) dX4_is_16 (by decide) ?_
      refine v_reti dX4_is_20 (by first | rfl | exact rt_c | exact rt_z | exact Or.inr rfl) (Pu_i ?_)
      first | exact (b2c_t hq).symm | exact (b2c_f hq).symm

theorem c_X4_needs {G : Gv} (hG : gs_ok G) {T : Nat → Nat} {n : Nat} {h : AH} {s : Nat × Nat × Nat} (hS : RS_ T n h s) {k : Nat} (hk : k < 100) : Ctr G 7 yX4_needs cX4_needs 2 none [.ref 241, .int (nI k)] h 0 0 (fun q h1 => q = none ∧ RS_ T n h1 (pd_ T n k s) ∧ rd_9 h h1) := by
  refine ctr_of (own := RX4) (nm := "needs") (by decide) (Nat.le_of_ble_eq_true rfl) ?_
  have hS0 := hS
  have hm := hS.1
  refine v_aload_n dX4_needs_0 rfl rfl ?_
  refine v_iload_n dX4_needs_1 rfl rfl ?_
  refine v_pV mtX4_is q1955 q1957 qs77 rfl (by decide) dX4_needs_2 (c_X4_is hS ?_) (mK_obj hm) (by decide) ?_
  · omega
  refine v_if_eq (tgt := 15) dX4_needs_5 (by decide) (fun b5 => ?_) (fun b5 => ?_)
  · skip
    rw [b2c_0] at b5
    have hq : pd_ T n k s = pf_ T n 2 s := cf_f b5
    refine v_aload_n dX4_needs_15 rfl rfl ?_
    refine v_iconst (v := nI 2) dX4_needs_16 (by decide) ?_
    refine v_zV mtX4_fails q1963 q1965 qs79 rfl (by decide) dX4_needs_17 (c_X4_fails hS ?_) (mK_obj hm) (by decide) (fun r17 h17 q17 z17 => ?_)
    · omega
    obtain ⟨rfl, hS17, hf17⟩ := q17
    have hm : MI h17 := hS17.1
    first | exact v_retv dX4_needs_20 trivial ⟨rfl, by rw [hq]; exact hS9, hf9⟩ | exact v_retv dX4_needs_20 trivial ⟨rfl, by rw [hq]; exact hS17, hf17⟩
  · skip
    rw [b2c_n0] at b5
    have hq : pd_ T n k s = pn_ T n s := cf_t b5
    refine v_aload_n dX4_needs_8 rfl rfl ?_
    refine v_zV mtX4_next q1932 q1934 qs74 rfl (by decide) dX4_needs_9 (c_X4_nextS hG hS) (mK_obj hm) (by decide) (fun r9 h9 q9 z9 => ?_)
    obtain ⟨rfl, hS9, hf9⟩ := q9
    have hm : MI h9 := hS9.1
    refine v_goto (tgt := 20) dX4_needs_12 (by decide) ?_
    first | exact v_retv dX4_needs_20 trivial ⟨rfl, by rw [hq]; exact hS9, hf9⟩ | exact v_retv dX4_needs_20 trivial ⟨rfl, by rw [hq]; exact hS17, hf17⟩

theorem pf_ne {T : Nat → Nat} {n f : Nat} {s : Nat × Nat × Nat} (hf : 0 < f) : ¬ (pf_ T n f s).2.1 = 0 := by
  unfold pf_
  by_cases z : s.2.1 = 0
  · rw [cf_t z]
    show ¬ cf_ (tk9_ T n s.1 = 16) 1 f = 0
    by_cases y : tk9_ T n s.1 = 16
    · rw [cf_t y]; omega
    · rw [cf_f y]; omega
  · rw [cf_f z]; exact z
theorem c_X4_reads {G : Gv} (hG : gs_ok G) {T : Nat → Nat} {n : Nat} {h : AH} {s : Nat × Nat × Nat} (hS : RS_ T n h s) {lo hi : Nat} (hlo : lo < 100) (hhi : hi < 100) : Ctr G 7 yX4_reads cX4_reads 4 (some .int) [.ref 241, .int (nI lo), .int (nI hi)] h 0 0 (fun q h1 => (∃ v, q = some (.int v) ∧ ((pr_9 T n lo hi s).2.1 = 0 → v = nI (nv_ T n s.1) ∧ lo ≤ nv_ T n s.1 ∧ nv_ T n s.1 ≤ hi)) ∧ RS_ T n h1 (pr_9 T n lo hi s) ∧ rd_9 h h1) := by
  refine ctr_of (own := RX4) (nm := "reads") (by decide) (Nat.le_of_ble_eq_true rfl) ?_
  have hS0 := hS
  have hm := hS.1
  have hw6 := hS.2.2.2.2.2.2.2.2.2.2
  refine v_cutH 37 (fun hh => RS_ T n hh (pr_0 T n lo hi s) ∧ rd_9 h hh ∧ ((pr_0 T n lo hi s).2.1 = 0 → hp_I hh 241 30 = nI (nv_ T n s.1) ∧ lo ≤ nv_ T n s.1 ∧ nv_ T n s.1 ≤ hi)) (fun hh hz37 => ?_) (fun hc37 => ?_)
  · skip
    obtain ⟨hSh, hfh, hvv⟩ := hz37
    have hm : MI hh := hSh.1
    have hr31 := hSh.2.2.2.2.2.2.2.2.1
    have hw7 := hSh.2.2.2.2.2.2.2.2.2.2
    refine v_aload_n dX4_reads_37 rfl rfl ?_
    refine v_getI fX4_249 dX4_reads_38 (mK_obj hm) ?_
    refine v_istore_n dX4_reads_41 rfl (by decide) ?_
    refine v_aload_n dX4_reads_42 rfl rfl ?_
    refine v_getI fX4_252 dX4_reads_43 (mK_obj hm) ?_
    rw [hr31]
    refine v_if_ne (tgt := 53) dX4_reads_46 (by decide) (fun b46 => ?_) (fun b46 => ?_)
    · skip
      have hnz : ¬ (pr_0 T n lo hi s).2.1 = 0 := fun z => b46 (by rw [z]; rfl)
      have hq : pr_9 T n lo hi s = pr_0 T n lo hi s := cf_f hnz
      refine v_iload_n dX4_reads_53 rfl rfl ?_
      first | exact v_reti dX4_reads_54 rfl ⟨⟨_, rfl, fun _ => hvv b46⟩, by rw [hq]; exact hS50, rd_tr hfh hf50⟩ | exact v_reti dX4_reads_54 rfl ⟨⟨_, rfl, fun z => absurd (by rw [hq] at z; exact z) hnz⟩, by rw [hq]; exact hSh, hfh⟩
    · skip
      rw [show (0 : Int32) = nI 0 from rfl, nI_eq (by omega) (by decide)] at b46
      have hq : pr_9 T n lo hi s = pn_ T n (pr_0 T n lo hi s) := cf_t b46
      refine v_aload_n dX4_reads_49 rfl rfl ?_
      refine v_zV mtX4_next q1932 q1934 qs74 rfl (by decide) dX4_reads_50 (c_X4_nextS hG hSh) (mK_obj hm) (by decide) (fun r50 h50 q50 z50 => ?_)
      obtain ⟨rfl, hS50, hf50⟩ := q50
      have hm : MI h50 := hS50.1
      refine v_iload_n dX4_reads_53 rfl rfl ?_
      first | exact v_reti dX4_reads_54 rfl ⟨⟨_, rfl, fun _ => hvv b46⟩, by rw [hq]; exact hS50, rd_tr hfh hf50⟩ | exact v_reti dX4_reads_54 rfl ⟨⟨_, rfl, fun z => absurd (by rw [hq] at z; exact z) hnz⟩, by rw [hq]; exact hSh, hfh⟩
  · skip
    refine v_aload_n dX4_reads_0 rfl rfl ?_
    refine v_bipush (v := nI 13) dX4_reads_1 (by decide) ?_
    refine v_pV mtX4_is q1955 q1957 qs77 rfl (by decide) dX4_reads_3 (c_X4_is hS ?_) (mK_obj hm) (by decide) ?_
    · omega
    refine v_if_ne (tgt := 17) dX4_reads_6 (by decide) (fun b6 => ?_) (fun b6 => ?_)
    · skip
      rw [b2c_n0] at b6
      have h13 := b6.2
      have hnl := nv_lt hS h13
      have h30 := hS.2.2.2.2.2.2.1 h13
      refine v_aload_n dX4_reads_17 rfl rfl ?_
      refine v_getI fX4_249 dX4_reads_18 (mK_obj hm) ?_
      rw [h30]
      refine v_i2l dX4_reads_21 ?_
      refine v_iload_n dX4_reads_22 rfl rfl ?_
      refine v_i2l dX4_reads_23 ?_
      refine v_iload_n dX4_reads_24 rfl rfl ?_
      refine v_i2l dX4_reads_25 ?_
      refine v_pS mtX4_within q1790 q1791 dX4_reads_26 (c_X4_within _ _ _) (by decide) ?_
      refine v_if_ne (tgt := 37) dX4_reads_29 (by decide) (fun b29 => ?_) (fun b29 => ?_)
      · skip
        rw [b2i_n0, nI_leI (by omega) (by omega), nI_leI (by omega) (by omega)] at b29
        have hq0 : pr_0 T n lo hi s = s := by unfold pr_0; rw [cf_f (fun z => z b6), cf_f (fun z => z b29)]
        first | exact hc37 _ ⟨by rw [hq0]; exact hS11, hf11, fun z => absurd z (by rw [hq0]; exact pf_ne (by omega))⟩ | exact hc37 _ ⟨by rw [hq0]; exact hS34, hf34, fun z => absurd z (by rw [hq0]; exact pf_ne (by omega))⟩ | exact hc37 _ ⟨by rw [hq0]; exact hS0, rd_rf h, fun _ => ⟨h30, b29⟩⟩
      · skip
        rw [b2i_0] at b29
        have hq0 : pr_0 T n lo hi s = pf_ T n 3 s := by unfold pr_0; rw [cf_f (fun z => z b6), cf_t (fun z => b29 ⟨(nI_leI (by omega) (by omega)).mpr z.1, (nI_leI (by omega) (by omega)).mpr z.2⟩)]
        refine v_aload_n dX4_reads_32 rfl rfl ?_
        refine v_iconst (v := nI 3) dX4_reads_33 (by decide) ?_
        refine v_zV mtX4_fails q1963 q1965 qs79 rfl (by decide) dX4_reads_34 (c_X4_fails hS ?_) (mK_obj hm) (by decide) (fun r34 h34 q34 z34 => ?_)
        · omega
        obtain ⟨rfl, hS34, hf34⟩ := q34
        have hm : MI h34 := hS34.1
        first | exact hc37 _ ⟨by rw [hq0]; exact hS11, hf11, fun z => absurd z (by rw [hq0]; exact pf_ne (by omega))⟩ | exact hc37 _ ⟨by rw [hq0]; exact hS34, hf34, fun z => absurd z (by rw [hq0]; exact pf_ne (by omega))⟩ | exact hc37 _ ⟨by rw [hq0]; exact hS0, rd_rf h, fun _ => ⟨h30, b29⟩⟩
    · skip
      rw [b2c_0] at b6
      have hq0 : pr_0 T n lo hi s = pf_ T n 2 s := cf_t b6
      refine v_aload_n dX4_reads_9 rfl rfl ?_
      refine v_iconst (v := nI 2) dX4_reads_10 (by decide) ?_
      refine v_zV mtX4_fails q1963 q1965 qs79 rfl (by decide) dX4_reads_11 (c_X4_fails hS ?_) (mK_obj hm) (by decide) (fun r11 h11 q11 z11 => ?_)
      · omega
      obtain ⟨rfl, hS11, hf11⟩ := q11
      have hm : MI h11 := hS11.1
      refine v_goto (tgt := 37) dX4_reads_14 (by decide) ?_
      first | exact hc37 _ ⟨by rw [hq0]; exact hS11, hf11, fun z => absurd z (by rw [hq0]; exact pf_ne (by omega))⟩ | exact hc37 _ ⟨by rw [hq0]; exact hS34, hf34, fun z => absurd z (by rw [hq0]; exact pf_ne (by omega))⟩ | exact hc37 _ ⟨by rw [hq0]; exact hS0, rd_rf h, fun _ => ⟨h30, b29⟩⟩

theorem c_X4_readsSide {G : Gv} (hG : gs_ok G) {T : Nat → Nat} {n : Nat} {h : AH} {s : Nat × Nat × Nat} (hS : RS_ T n h s) : Ctr G 7 yX4_readsSide cX4_readsSide 2 (some .int) [.ref 241] h 0 0 (fun q h1 => q = some (.int (b2c (pi_ T n 11 s))) ∧ RS_ T n h1 (ps_9 T n s) ∧ rd_9 h h1) := by
  refine ctr_of (own := RX4) (nm := "readsSide") (by decide) (Nat.le_of_ble_eq_true rfl) ?_
  have hS0 := hS
  have hm := hS.1
  refine v_join 14 (fun z => z = b2c (pi_ T n 11 s)) (fun z hz => ?_) (fun hj14 => ?_)
  · skip
    subst hz
    refine v_istore_n dX4_readsSide_14 rfl (by decide) ?_
    refine v_aload_n dX4_readsSide_15 rfl rfl ?_
    refine v_bipush (v := nI 10) dX4_readsSide_16 (by decide) ?_
    refine v_pV mtX4_is q1955 q1957 qs77 rfl (by decide) dX4_readsSide_18 (c_X4_is hS ?_) (mK_obj hm) (by decide) ?_
    · omega
    refine v_if_ne (tgt := 33) dX4_readsSide_21 (by decide) (fun b21 => ?_) (fun b21 => ?_)
    · skip
      rw [b2c_n0] at b21
      have hq : ps_9 T n s = pn_ T n s := cf_t (Or.inl b21)
      refine v_aload_n dX4_readsSide_33 rfl rfl ?_
      refine v_zV mtX4_next q1932 q1934 qs74 rfl (by decide) dX4_readsSide_34 (c_X4_nextS hG hS) (mK_obj hm) (by decide) (fun r34 h34 q34 z34 => ?_)
      obtain ⟨rfl, hS34, hf34⟩ := q34
      have hm : MI h34 := hS34.1
      refine v_goto (tgt := 45) dX4_readsSide_37 (by decide) ?_
      refine v_iload_n dX4_readsSide_45 rfl rfl ?_
      first | exact v_reti dX4_readsSide_46 rfl ⟨rfl, by rw [hq]; exact hS34, hf34⟩ | exact v_reti dX4_readsSide_46 rfl ⟨rfl, by rw [hq]; exact hS42, hf42⟩
    · skip
      rw [b2c_0] at b21
      refine v_aload_n dX4_readsSide_24 rfl rfl ?_
      refine v_bipush (v := nI 11) dX4_readsSide_25 (by decide) ?_
      refine v_pV mtX4_is q1955 q1957 qs77 rfl (by decide) dX4_readsSide_27 (c_X4_is hS ?_) (mK_obj hm) (by decide) ?_
      · omega
      refine v_if_eq (tgt := 40) dX4_readsSide_30 (by decide) (fun b30 => ?_) (fun b30 => ?_)
      · skip
        rw [b2c_0] at b30
        have hq : ps_9 T n s = pf_ T n 2 s := cf_f (fun z => z.elim b21 b30)
        refine v_aload_n dX4_readsSide_40 rfl rfl ?_
        refine v_iconst (v := nI 2) dX4_readsSide_41 (by decide) ?_
        refine v_zV mtX4_fails q1963 q1965 qs79 rfl (by decide) dX4_readsSide_42 (c_X4_fails hS ?_) (mK_obj hm) (by decide) (fun r42 h42 q42 z42 => ?_)
        · omega
        obtain ⟨rfl, hS42, hf42⟩ := q42
        have hm : MI h42 := hS42.1
        refine v_iload_n dX4_readsSide_45 rfl rfl ?_
        first | exact v_reti dX4_readsSide_46 rfl ⟨rfl, by rw [hq]; exact hS34, hf34⟩ | exact v_reti dX4_readsSide_46 rfl ⟨rfl, by rw [hq]; exact hS42, hf42⟩
      · skip
        rw [b2c_n0] at b30
        have hq : ps_9 T n s = pn_ T n s := cf_t (Or.inr b30)
        refine v_aload_n dX4_readsSide_33 rfl rfl ?_
        refine v_zV mtX4_next q1932 q1934 qs74 rfl (by decide) dX4_readsSide_34 (c_X4_nextS hG hS) (mK_obj hm) (by decide) (fun r34 h34 q34 z34 => ?_)
        obtain ⟨rfl, hS34, hf34⟩ := q34
        have hm : MI h34 := hS34.1
        refine v_goto (tgt := 45) dX4_readsSide_37 (by decide) ?_
        refine v_iload_n dX4_readsSide_45 rfl rfl ?_
        first | exact v_reti dX4_readsSide_46 rfl ⟨rfl, by rw [hq]; exact hS34, hf34⟩ | exact v_reti dX4_readsSide_46 rfl ⟨rfl, by rw [hq]; exact hS42, hf42⟩
  · skip
    refine v_aload_n dX4_readsSide_0 rfl rfl ?_
    refine v_bipush (v := nI 11) dX4_readsSide_1 (by decide) ?_
    refine v_pV mtX4_is q1955 q1957 qs77 rfl (by decide) dX4_readsSide_3 (c_X4_is hS ?_) (mK_obj hm) (by decide) ?_
    · omega
    refine v_if_eq (tgt := 13) dX4_readsSide_6 (by decide) (fun b6 => ?_) (fun b6 => ?_)
    · skip
      rw [b2c_0] at b6
      refine v_iconst (v := 0) dX4_readsSide_13 (by decide) ?_
      exact hj14 _ (by first | exact (b2c_t b6).symm | exact (b2c_f b6).symm)
    · skip
      rw [b2c_n0] at b6
      refine v_iconst (v := 1) dX4_readsSide_9 (by decide) ?_
      refine v_goto (tgt := 14) dX4_readsSide_10 (by decide) ?_
      exact hj14 _ (by first | exact (b2c_t b6).symm | exact (b2c_f b6).symm)

