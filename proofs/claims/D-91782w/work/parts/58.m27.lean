set_option maxRecDepth 100000
/-- rows of answers by hits, behind t trials -/
def rr_ (A H : Nat → Int32) : Nat → Nat → Int64
  | 0, n => if n = 0 then (1 : Int32).toInt64 else (0 : Int32).toInt64
  | t + 1, n => if n ≤ t + 1 then rr_ A H t n * (A t - H t).toInt64 + (if 0 < n then rr_ A H t (n - 1) * (H t).toInt64 else (0 : Int32).toInt64) else rr_ A H t n
theorem rr_s (A H : Nat → Int32) (t n : Nat) : rr_ A H (t + 1) n = if n ≤ t + 1 then rr_ A H t n * (A t - H t).toInt64 + (if 0 < n then rr_ A H t (n - 1) * (H t).toInt64 else (0 : Int32).toInt64) else rr_ A H t n := rfl
def sr_ (f : Nat → Int64) (lo : Nat) : Nat → Int64
  | 0 => (0 : Int32).toInt64
  | k + 1 => sr_ f lo k + f (lo + k)
theorem sr_s (f : Nat → Int64) (lo k : Nat) : sr_ f lo (k + 1) = sr_ f lo k + f (lo + k) := rfl
def rw_ (h : AH) (nT : Nat) (x : Int32) : Int64 := sr_ (rr_ (hp_I h 270) (hp_I h 271) nT) x.toNatClampNeg (nT + 1 - x.toNatClampNeg)
/-- the trials, well made -/
def TR_ (h : AH) (nT : Nat) : Prop := hp_I h 241 56 = nI nT ∧ nT ≤ 9 ∧ ∀ t, t < nT → ∃ a b, hp_I h 270 t = nI a ∧ hp_I h 271 t = nI b ∧ a ≤ 20 ∧ 1 ≤ b ∧ b < a
/-- the row of longs alone differs -/
def rl_ (h h' : AH) : Prop := hp_n h' = hp_n h ∧ hp_K h' = hp_K h ∧ hp_R h' = hp_R h ∧ hp_I h' = hp_I h ∧ ∀ p, p ≠ 272 → hp_L h' p = hp_L h p
theorem rl_rf (h : AH) : rl_ h h := ⟨rfl, rfl, rfl, rfl, fun _ _ => rfl⟩
theorem rl_tr {h h1 h2 : AH} (a : rl_ h h1) (b : rl_ h1 h2) : rl_ h h2 := ⟨b.1.trans a.1, b.2.1.trans a.2.1, b.2.2.1.trans a.2.2.1, b.2.2.2.1.trans a.2.2.2.1, fun p hp => (b.2.2.2.2 p hp).trans (a.2.2.2.2 p hp)⟩
theorem rl_L {h h1 : AH} {k : Nat} {v : Int64} (a : rl_ h h1) : rl_ h (up_L h1 272 k v) := ⟨a.1, a.2.1, a.2.2.1, a.2.2.2.1, fun p hp => (funext fun j => by rw [hp_L_L, if_neg (fun z => hp z.1), a.2.2.2.2 p hp])⟩
theorem rl_m {h h1 : AH} (a : rl_ h h1) (hm : MI h) : MI h1 := MI_of hm (fun p _ _ => by rw [a.2.1]) (fun k => by rw [a.2.2.1])
theorem fp_rl {h h1 : AH} (a : rl_ h h1) : fp_ h h1 := ⟨a.1, a.2.1, a.2.2.1, fun p hp _ => ⟨by rw [a.2.2.2.1], a.2.2.2.2 p (fun z => by subst z; exact hp (by decide))⟩, fun f _ => by rw [a.2.2.2.1]⟩
theorem rw_rl {h h1 : AH} (a : rl_ h h1) (nT : Nat) (x : Int32) : rw_ h1 nT x = rw_ h nT x := by unfold rw_; rw [a.2.2.2.1]
theorem rw_fp {h h1 : AH} (a : fp_ h h1) (nT : Nat) (x : Int32) : rw_ h1 nT x = rw_ h nT x := by unfold rw_; rw [fp_A a 270 (by decide) (by decide), fp_A a 271 (by decide) (by decide)]
theorem TR_fp {h h1 : AH} {nT : Nat} (f : fp_ h h1) (a : TR_ h nT) : TR_ h1 nT := by
  unfold TR_
  rw [fp_I f 56 (by decide), fp_A f 270 (by decide) (by decide), fp_A f 271 (by decide) (by decide)]
  exact a
theorem cl_neg {x : Int32} (h : ¬ 0 ≤ x) : x.toNatClampNeg = 0 := by
  have h1 := Int32.lt_iff_toInt_lt.mp (Int32.not_le.mp h)
  have h2 : (0 : Int32).toInt = 0 := by decide
  show x.toInt.toNat = 0
  omega
theorem cl_lt (x : Int32) : x.toNatClampNeg < 2 ^ 31 := by
  have := Int32.toInt_lt x
  show x.toInt.toNat < 2 ^ 31
  omega
def zl_ : Int64 := (0 : Int32).toInt64
theorem zl_e : zl_ = 0 := by decide
theorem rr_z (A H : Nat → Int32) : ∀ t n, t < n → rr_ A H t n = zl_
  | 0, n, h => if_neg (by omega)
  | t + 1, n, h => by rw [rr_s, if_neg (by omega)]; exact rr_z A H t n (by omega)
theorem sr_rr (A H : Nat → Int32) (t : Nat) : ∀ m, m ≤ t + 1 → sr_ (rr_ A H (t + 1)) 0 (m + 1) = sr_ (rr_ A H t) 0 (m + 1) * (A t - H t).toInt64 + sr_ (rr_ A H t) 0 m * (H t).toInt64
  | 0, _ => by
    show zl_ + rr_ A H (t + 1) 0 = (zl_ + rr_ A H t 0) * _ + zl_ * _
    rw [rr_s, if_pos (by omega), if_neg (by omega)]
    show zl_ + (_ + zl_) = _
    rw [zl_e]
    generalize rr_ A H t 0 = u
    generalize (A t - H t).toInt64 = v
    generalize (H t).toInt64 = x
    grind
  | m + 1, h => by
    rw [sr_s, sr_rr A H t m (by omega), sr_s (rr_ A H t) 0 (m + 1), rr_s, if_pos (by omega), if_pos (by omega), sr_s (rr_ A H t) 0 m]
    simp only [Nat.zero_add, Nat.add_sub_cancel]
    generalize sr_ (rr_ A H t) 0 m = s
    generalize rr_ A H t m = u
    generalize rr_ A H t (m + 1) = u2
    generalize (A t - H t).toInt64 = v
    generalize (H t).toInt64 = x
    grind
theorem nI_64 {a : Nat} (ha : a < 2 ^ 31) : (nI a).toInt64 = Int64.ofNat a := by
  apply Int64.toInt_inj.mp
  rw [Int32.toInt_toInt64, nI_toInt ha, Int64.toInt_ofNat_of_lt (by omega)]
theorem rr_pos {h : AH} {nT : Nat} (hT : TR_ h nT) : ∀ t, t ≤ nT → ∃ P, 0 < P ∧ P ≤ 20 ^ t ∧ sr_ (rr_ (hp_I h 270) (hp_I h 271) t) 0 (t + 1) = Int64.ofNat P
  | 0, _ => ⟨1, by decide, by decide, by
    show (0 : Int32).toInt64 + (if 0 + 0 = 0 then (1 : Int32).toInt64 else (0 : Int32).toInt64) = Int64.ofNat 1
    rw [if_pos rfl]
    decide⟩
  | t + 1, ht => by
    obtain ⟨P, h1, h2, h3⟩ := rr_pos hT t (by omega)
    obtain ⟨a, b, e1, e2, h4, h5, h6⟩ := hT.2.2 t (by omega)
    refine ⟨P * a, Nat.mul_pos h1 (by omega), Nat.le_trans (Nat.mul_le_mul h2 h4) (Nat.le_of_eq (Nat.pow_succ _ _).symm), ?_⟩
    rw [sr_rr _ _ t (t + 1) (Nat.le_refl _), sr_s (rr_ _ _ t) 0 (t + 1), rr_z _ _ t (0 + (t + 1)) (by omega), h3, e1, e2, show nI a - nI b = nI (a - b) from ix_sub rfl rfl (by omega), nI_64 (by omega), nI_64 (by omega), zl_e, Int64.add_zero, ← Int64.mul_add]
    rw [show Int64.ofNat (a - b) + Int64.ofNat b = Int64.ofNat a from by rw [← Int64.ofNat_add]; congr 1; omega, Int64.ofNat_mul]
theorem rw_ne {h : AH} {nT : Nat} (hT : TR_ h nT) : ¬ rw_ h nT (-1) = 0 := by
  obtain ⟨P, h1, h2, h3⟩ := rr_pos hT nT (Nat.le_refl _)
  have h9 : 20 ^ nT ≤ 20 ^ 9 := Nat.pow_le_pow_right (by decide) hT.2.1
  intro z
  have e : rw_ h nT (-1) = sr_ (rr_ (hp_I h 270) (hp_I h 271) nT) 0 (nT + 1) := by
    unfold rw_
    rw [cl_neg (by decide)]; rfl
  rw [e, h3] at z
  have := congrArg Int64.toInt z
  rw [Int64.toInt_ofNat_of_lt (by omega)] at this
  have h0 : (0 : Int64).toInt = 0 := by decide
  omega
def PfL (h : AH) (F : AH → Int64 × AH) : Option Value → AH → Prop := fun r h1 => ∃ hx, fp_ h hx ∧ r = some (.long (F hx).1) ∧ h1 = (F hx).2
noncomputable def sp_luck (h : AH) (nT : Nat) (x : Int32) (hx : AH) : Int64 × AH := (@ite _ (x < -1) (Classical.propDecidable _) (-1 : Int32).toInt64 (rw_ h nT x), hx)
theorem luck_t {h hx : AH} {nT : Nat} {x : Int32} (z : x < -1) : (sp_luck h nT x hx).1 = (-1 : Int32).toInt64 := if_pos z
theorem luck_f {h hx : AH} {nT : Nat} {x : Int32} (z : ¬ x < -1) : (sp_luck h nT x hx).1 = rw_ h nT x := if_neg z
def cho_ (h : AH) (nT : Nat) (x : Int32) : Int32 := ((1000000 : Int32).toInt64 * rw_ h nT x / rw_ h nT (-1)).toInt32
def chx_ (e : Int32) : Nat → Int64
  | 0 => (1000000 : Int32).toInt64
  | k + 1 => chx_ e k * (1000000 - e).toInt64 / (1000000 : Int32).toInt64
theorem chx_s (e : Int32) (k : Nat) : chx_ e (k + 1) = chx_ e k * (1000000 - e).toInt64 / (1000000 : Int32).toInt64 := rfl
noncomputable def sp_chance (h : AH) (nT : Nat) (x r : Int32) (hx : AH) : Int32 × AH := (cf_ (0 ≤ x ∧ (1 ≤ r ∧ r ≤ 100)) (1000000 - (chx_ (cho_ h nT x) r.toNatClampNeg).toInt32) (-1), hx)
noncomputable def sp_fair (h : AH) (sN nC nW nT : Nat) (S x l th g s e : Int32) (hx : AH) : Int32 × AH :=
  (cf_ ((0 ≤ S ∧ S ≤ nI (2 ^ nC - 1)) ∧ tsk_ h th g s e ∧ 0 ≤ x ∧ (0 ≤ l ∧ l ≤ 1000000)) (cf_ (¬ dc_ (hp_I h 243) (ct_ h) nC sN S h nW th.toNatClampNeg g.toNatClampNeg s.toNatClampNeg e.toNatClampNeg) 1 (cf_ (l < cho_ h nT x) 2 (cf_ (nI nT < x) 3 0))) (-1), hx)
set_option maxHeartbeats 1000000 in
theorem c_X4_rowsWith {G : Gv} {h : AH} (hm : MI h) {nT : Nat} (hT : TR_ h nT) (x : Int32) : Ctr G 1 yX4_rowsWith cX4_rowsWith 5 (some .long) [.ref 241, .int x] h 0 0 (fun q h1 => q = some (.long (rw_ h nT x)) ∧ rl_ h h1) := by
  refine ctr_of (own := RX4) (nm := "rowsWith") (by decide) (Nat.le_of_ble_eq_true rfl) ?_
  obtain ⟨hT1, hT9, hT2⟩ := hT
  have hcl := cl_lt x
  have hm0 := hm
  refine v_aload_n dX4_rowsWith_0 rfl rfl ?_
  refine v_getR fX4_112 dX4_rowsWith_1 (mK_obj hm) (mR_rows hm) ?_ fcA_J
  refine v_iconst (v := nI 0) dX4_rowsWith_4 (by decide) ?_
  refine v_lconst (v := (1 : Int32).toInt64) dX4_rowsWith_5 (by decide) ?_
  refine v_last dX4_rowsWith_6 (mK_rows hm) rfl (by first | assumption | omega) ?_
  refine v_iconst (v := 1) dX4_rowsWith_7 (by decide) ?_
  refine v_istore_n dX4_rowsWith_8 rfl (by decide) ?_
  refine v_loc2 (by repeat' (first | with_reducible exact lsub_n | with_reducible refine lsub_c ?_ ?_ | with_reducible refine lk_hit ?_ | with_reducible refine lk_miss (by decide) ?_ ?_ | exact rfl)) (v_lp2 (fun (n : Nat) (hh : AH) => 10 - n) (fun (n : Nat) (hh : AH) => (1 ≤ n ∧ n ≤ 10) ∧ rl_ h hh ∧ hp_L hh 272 0 = (1 : Int32).toInt64 ∧ ∀ i, 0 < i → i < n → hp_L hh 272 i = (0 : Int32).toInt64) (fun (n : Nat) (hh : AH) => [(0, .ref 241), (1, .int x), (2, .int (nI n))]) (fun (n : Nat) (hh : AH) => hh) ?_ 1 _ ⟨⟨Nat.le_refl _, by decide⟩, rl_L (rl_rf h), by rw [hp_L_L, if_pos ⟨rfl, rfl⟩], fun i h1 h2 => by omega⟩)
  intro n hh hI IH
  obtain ⟨hI1, hI2, hI3, hI4⟩ := hI
  have hm : MI hh := rl_m hI2 hm0
  refine v_iload_n dX4_rowsWith_9 rfl rfl ?_
  refine v_bipush (v := nI 9) dX4_rowsWith_10 (by decide) ?_
  refine v_icmp_gt (tgt := 28) dX4_rowsWith_12 (by decide) (fun b12 => ?_) (fun b12 => ?_)
  · skip
    rw [nI_ltI (by omega) (by omega)] at b12
    have hk : n = 10 := by omega
    have hR0 : ∀ i, i ≤ 9 → hp_L hh 272 i = rr_ (hp_I h 270) (hp_I h 271) 0 i := fun i hi => by
     rcases Nat.eq_zero_or_pos i with z | z
     · rw [z]; exact hI3
     · rw [hI4 i z (by omega)]; exact (if_neg (by omega)).symm
    refine v_iconst (v := 0) dX4_rowsWith_28 (by decide) ?_
    refine v_istore_n dX4_rowsWith_29 rfl (by decide) ?_
    refine v_loc2 (by repeat' (first | with_reducible exact lsub_n | with_reducible refine lsub_c ?_ ?_ | with_reducible refine lk_hit ?_ | with_reducible refine lk_miss (by decide) ?_ ?_ | exact rfl)) (v_lp2 (fun (t : Nat) (hg : AH) => nT - t) (fun (t : Nat) (hg : AH) => t ≤ nT ∧ rl_ h hg ∧ ∀ i, i ≤ 9 → hp_L hg 272 i = rr_ (hp_I h 270) (hp_I h 271) t i) (fun (t : Nat) (hg : AH) => [(0, .ref 241), (1, .int x), (2, .int (nI t))]) (fun (t : Nat) (hg : AH) => hg) ?_ 0 _ ⟨Nat.zero_le _, hI2, hR0⟩)
    intro t hg hI IH
    obtain ⟨hI1, hr, hI3⟩ := hI
    have hm : MI hg := rl_m hr hm0
    refine v_iload_n dX4_rowsWith_30 rfl rfl ?_
    refine v_aload_n dX4_rowsWith_31 rfl rfl ?_
    refine v_getI fX4_125 dX4_rowsWith_32 (mK_obj hm) ?_
    rw [hr.2.2.2.1, hT1]
    refine v_icmp_ge (tgt := 110) dX4_rowsWith_35 (by decide) (fun b35 => ?_) (fun b35 => ?_)
    · skip
      rw [nI_leI (by omega) (by omega)] at b35
      have hk2 : nT = t := by omega
      subst hk2
      refine v_lconst (v := (0 : Int32).toInt64) dX4_rowsWith_110 (by decide) ?_
      refine v_lstore_n dX4_rowsWith_111 rfl (by decide) ?_
      refine v_join 121 (fun z => z = nI x.toNatClampNeg) (fun z hz => ?_) (fun hj121 => ?_)
      · skip
        subst hz
        refine v_istore dX4_rowsWith_121 (by decide) ?_
        refine v_loc2 (by repeat' (first | with_reducible exact lsub_n | with_reducible refine lsub_c ?_ ?_ | with_reducible refine lk_hit ?_ | with_reducible refine lk_miss (by decide) ?_ ?_ | exact rfl)) (v_lp1 (fun (k : Nat) => nT + 1 - (x.toNatClampNeg + k)) (fun (k : Nat) => x.toNatClampNeg + k ≤ max (nT + 1) x.toNatClampNeg) (fun (k : Nat) => [(0, .ref 241), (1, .int x), (2, .long (sr_ (rr_ (hp_I h 270) (hp_I h 271) nT) x.toNatClampNeg k)), (4, .int (nI (x.toNatClampNeg + k)))]) (fun _ => []) (fun (k : Nat) => hg) ?_ 0 (by omega))
        intro k hK IHk
        refine v_iload dX4_rowsWith_123 rfl ?_
        refine v_aload_n dX4_rowsWith_125 rfl rfl ?_
        refine v_getI fX4_125 dX4_rowsWith_126 (mK_obj hm) ?_
        rw [hr.2.2.2.1, hT1]
        refine v_icmp_gt (tgt := 148) dX4_rowsWith_129 (by decide) (fun b129 => ?_) (fun b129 => ?_)
        · skip
          rw [nI_ltI (by omega) (by omega)] at b129
          have hk9 : nT + 1 - x.toNatClampNeg = k := by omega
          refine v_lload_n dX4_rowsWith_148 rfl rfl ?_
          exact v_retl dX4_rowsWith_149 rfl ⟨by unfold rw_; rw [hk9], hr⟩
        · skip
          rw [nI_ltI (by omega) (by omega)] at b129
          refine v_lload_n dX4_rowsWith_132 rfl rfl ?_
          refine v_aload_n dX4_rowsWith_133 rfl rfl ?_
          refine v_getR fX4_112 dX4_rowsWith_134 (mK_obj hm) (mR_rows hm) ?_ fcA_J
          refine v_iload dX4_rowsWith_137 rfl ?_
          refine v_lald dX4_rowsWith_139 (mK_rows hm) rfl (by first | assumption | omega) ?_
          rw [hI3 _ (by omega)]
          refine v_ladd dX4_rowsWith_140 ?_
          refine v_lstore_n dX4_rowsWith_141 rfl (by decide) ?_
          refine v_iinc dX4_rowsWith_142 rfl (by first | with_reducible exact nI_inc _ | exact rfl) (by decide) ?_
          refine v_goto (tgt := 123) dX4_rowsWith_145 (by decide) ?_
          refine v_loc2 (by repeat' (first | with_reducible exact lsub_n | with_reducible refine lsub_c ?_ ?_ | with_reducible refine lk_hit ?_ | with_reducible refine lk_miss (by decide) ?_ ?_ | exact rfl)) (IHk (k + 1) (by omega) (by omega))
      · skip
        refine v_iload_n dX4_rowsWith_112 rfl rfl ?_
        refine v_if_ge (tgt := 120) dX4_rowsWith_113 (by decide) (fun b113 => ?_) (fun b113 => ?_)
        · skip
          refine v_iload_n dX4_rowsWith_120 rfl rfl ?_
          exact hj121 _ (by first | (rw [cl_neg b113]; rfl) | (obtain ⟨y, hy, ey⟩ := nI_of (Int32.not_lt.mpr b113); rw [ey, nI_clamp hy]))
        · skip
          refine v_iconst (v := 0) dX4_rowsWith_116 (by decide) ?_
          refine v_goto (tgt := 121) dX4_rowsWith_117 (by decide) ?_
          exact hj121 _ (by first | (rw [cl_neg b113]; rfl) | (obtain ⟨y, hy, ey⟩ := nI_of (Int32.not_lt.mpr b113); rw [ey, nI_clamp hy]))
    · skip
      rw [nI_leI (by omega) (by omega)] at b35
      have hk2 : t < nT := by omega
      refine v_iload_n dX4_rowsWith_38 rfl rfl ?_
      refine v_iconst (v := 1) dX4_rowsWith_39 (by decide) ?_
      refine v_iadd dX4_rowsWith_40 ?_
      refine v_istore_n dX4_rowsWith_41 rfl (by decide) ?_
      refine v_loc2 (by repeat' (first | with_reducible exact lsub_n | with_reducible refine lsub_c ?_ ?_ | with_reducible refine lk_hit ?_ | with_reducible refine lk_miss (by decide) ?_ ?_ | (first | exact rfl | exact congrArg (fun z => some (Value.int z)) (show nI t + 1 = nI (t + 2) - 1 from by rw [nI_pred, ← nI_1])))) (v_lp2 (fun (k : Nat) (hi : AH) => k) (fun (k : Nat) (hi : AH) => k ≤ t + 2 ∧ rl_ h hi ∧ ∀ i, i ≤ 9 → hp_L hi 272 i = if k ≤ i then rr_ (hp_I h 270) (hp_I h 271) (t + 1) i else rr_ (hp_I h 270) (hp_I h 271) t i) (fun (k : Nat) (hi : AH) => [(0, .ref 241), (1, .int x), (2, .int (nI t)), (3, .int (nI k - 1))]) (fun (k : Nat) (hi : AH) => hi) ?_ (t + 2) _ ⟨Nat.le_refl _, hr, fun i hi => by rw [hI3 i hi]; by_cases z : t + 2 ≤ i; rw [if_pos z, rr_s, if_neg (by omega)]; rw [if_neg z]⟩)
      intro k hi hJ0 IHk
      obtain ⟨hJ1, hrr, hJ⟩ := hJ0
      have hm : MI hi := rl_m hrr hm0
      refine v_iload_n dX4_rowsWith_42 rfl rfl ?_
      refine v_if_lt (tgt := 104) dX4_rowsWith_43 (by decide) (fun b43 => ?_) (fun b43 => ?_)
      · skip
        have hn := dl_t b43 (by omega)
        subst hn
        refine v_iinc dX4_rowsWith_104 rfl (by first | with_reducible exact nI_inc _ | exact rfl) (by decide) ?_
        refine v_goto (tgt := 30) dX4_rowsWith_107 (by decide) ?_
        refine v_loc2 (by repeat' (first | with_reducible exact lsub_n | with_reducible refine lsub_c ?_ ?_ | with_reducible refine lk_hit ?_ | with_reducible refine lk_miss (by decide) ?_ ?_ | exact rfl)) (IH (t + 1) _ ⟨by omega, hrr, fun i hi => by rw [hJ i hi, if_pos (Nat.zero_le _)]⟩ (by omega))
      · skip
        obtain ⟨j, rfl⟩ := dl_f b43
        rw [nI_pred]
        refine v_aload_n dX4_rowsWith_46 rfl rfl ?_
        refine v_getR fX4_112 dX4_rowsWith_47 (mK_obj hm) (mR_rows hm) ?_ fcA_J
        refine v_iload_n dX4_rowsWith_50 rfl rfl ?_
        refine v_aload_n dX4_rowsWith_51 rfl rfl ?_
        refine v_getR fX4_112 dX4_rowsWith_52 (mK_obj hm) (mR_rows hm) ?_ fcA_J
        refine v_iload_n dX4_rowsWith_55 rfl rfl ?_
        refine v_lald dX4_rowsWith_56 (mK_rows hm) rfl (by first | assumption | omega) ?_
        rw [hJ j (by omega), if_neg (by omega)]
        refine v_aload_n dX4_rowsWith_57 rfl rfl ?_
        refine v_getR fX4_106 dX4_rowsWith_58 (mK_obj hm) (mR_answers hm) ?_ fcA_I
        refine v_iload_n dX4_rowsWith_61 rfl rfl ?_
        refine v_iald dX4_rowsWith_62 (mK_answers hm) rfl (by first | assumption | omega) ?_
        rw [hrr.2.2.2.1]
        refine v_aload_n dX4_rowsWith_63 rfl rfl ?_
        refine v_getR fX4_109 dX4_rowsWith_64 (mK_obj hm) (mR_hitsOf hm) ?_ fcA_I
        refine v_iload_n dX4_rowsWith_67 rfl rfl ?_
        refine v_iald dX4_rowsWith_68 (mK_hitsOf hm) rfl (by first | assumption | omega) ?_
        rw [hrr.2.2.2.1]
        refine v_isub dX4_rowsWith_69 ?_
        refine v_i2l dX4_rowsWith_70 ?_
        refine v_lmul dX4_rowsWith_71 ?_
        refine v_iload_n dX4_rowsWith_72 rfl rfl ?_
        refine v_if_le (tgt := 95) dX4_rowsWith_73 (by decide) (fun b73 => ?_) (fun b73 => ?_)
        · skip
          rw [show (0 : Int32) = nI 0 from rfl, nI_leI (by omega) (by omega)] at b73
          have hj0 : j = 0 := by omega
          have hval : rr_ (hp_I h 270) (hp_I h 271) (t + 1) j = rr_ (hp_I h 270) (hp_I h 271) t j * (hp_I h 270 t - hp_I h 271 t).toInt64 + (0 : Int32).toInt64 := by rw [rr_s, if_pos (by omega), if_neg (by omega)]
          refine v_lconst (v := (0 : Int32).toInt64) dX4_rowsWith_95 (by decide) ?_
          refine v_ladd dX4_rowsWith_96 ?_
          refine v_last dX4_rowsWith_97 (mK_rows hm) rfl (by first | assumption | omega) ?_
          refine v_iinc dX4_rowsWith_98 rfl (by first | with_reducible exact nI_inc _ | exact rfl) (by decide) ?_
          rw [nI_m1s]
          refine v_goto (tgt := 42) dX4_rowsWith_101 (by decide) ?_
          refine v_loc2 (by repeat' (first | with_reducible exact lsub_n | with_reducible refine lsub_c ?_ ?_ | with_reducible refine lk_hit ?_ | with_reducible refine lk_miss (by decide) ?_ ?_ | exact rfl)) (IHk j _ ⟨by omega, rl_L hrr, fun i hi9 => ?_⟩ (by omega))
          rw [hp_L_L]
          by_cases z : i = j
          · rw [if_pos ⟨rfl, z⟩, z, if_pos (Nat.le_refl _), hval]
          · rw [if_neg (fun y => z y.2), hJ i hi9]; by_cases u : j ≤ i
            · rw [if_pos (show j + 1 ≤ i by omega), if_pos u]
            · rw [if_neg (show ¬ j + 1 ≤ i by omega), if_neg u]
        · skip
          rw [show (0 : Int32) = nI 0 from rfl, nI_leI (by omega) (by omega)] at b73
          have hval : rr_ (hp_I h 270) (hp_I h 271) (t + 1) j = rr_ (hp_I h 270) (hp_I h 271) t j * (hp_I h 270 t - hp_I h 271 t).toInt64 + rr_ (hp_I h 270) (hp_I h 271) t (j - 1) * (hp_I h 271 t).toInt64 := by rw [rr_s, if_pos (by omega), if_pos (by omega)]
          refine v_aload_n dX4_rowsWith_76 rfl rfl ?_
          refine v_getR fX4_112 dX4_rowsWith_77 (mK_obj hm) (mR_rows hm) ?_ fcA_J
          refine v_iload_n dX4_rowsWith_80 rfl rfl ?_
          refine v_iconst (v := 1) dX4_rowsWith_81 (by decide) ?_
          refine v_isub dX4_rowsWith_82 ?_
          refine v_lald dX4_rowsWith_83 (mK_rows hm) (ix_sub rfl (ix_lit _) (by omega)) (by first | assumption | omega) ?_
          rw [hJ (j - 1) (by omega), if_neg (by omega)]
          refine v_aload_n dX4_rowsWith_84 rfl rfl ?_
          refine v_getR fX4_109 dX4_rowsWith_85 (mK_obj hm) (mR_hitsOf hm) ?_ fcA_I
          refine v_iload_n dX4_rowsWith_88 rfl rfl ?_
          refine v_iald dX4_rowsWith_89 (mK_hitsOf hm) rfl (by first | assumption | omega) ?_
          rw [hrr.2.2.2.1]
          refine v_i2l dX4_rowsWith_90 ?_
          refine v_lmul dX4_rowsWith_91 ?_
          refine v_goto (tgt := 96) dX4_rowsWith_92 (by decide) ?_
          refine v_ladd dX4_rowsWith_96 ?_
          refine v_last dX4_rowsWith_97 (mK_rows hm) rfl (by first | assumption | omega) ?_
          refine v_iinc dX4_rowsWith_98 rfl (by first | with_reducible exact nI_inc _ | exact rfl) (by decide) ?_
          rw [nI_m1s]
          refine v_goto (tgt := 42) dX4_rowsWith_101 (by decide) ?_
          refine v_loc2 (by repeat' (first | with_reducible exact lsub_n | with_reducible refine lsub_c ?_ ?_ | with_reducible refine lk_hit ?_ | with_reducible refine lk_miss (by decide) ?_ ?_ | exact rfl)) (IHk j _ ⟨by omega, rl_L hrr, fun i hi9 => ?_⟩ (by omega))
          rw [hp_L_L]
          by_cases z : i = j
          · rw [if_pos ⟨rfl, z⟩, z, if_pos (Nat.le_refl _), hval]
          · rw [if_neg (fun y => z y.2), hJ i hi9]; by_cases u : j ≤ i
            · rw [if_pos (show j + 1 ≤ i by omega), if_pos u]
            · rw [if_neg (show ¬ j + 1 ≤ i by omega), if_neg u]
  · skip
    rw [nI_ltI (by omega) (by omega)] at b12
    refine v_aload_n dX4_rowsWith_15 rfl rfl ?_
    refine v_getR fX4_112 dX4_rowsWith_16 (mK_obj hm) (mR_rows hm) ?_ fcA_J
    refine v_iload_n dX4_rowsWith_19 rfl rfl ?_
    refine v_lconst (v := (0 : Int32).toInt64) dX4_rowsWith_20 (by decide) ?_
    refine v_last dX4_rowsWith_21 (mK_rows hm) rfl (by first | assumption | omega) ?_
    refine v_iinc dX4_rowsWith_22 rfl (by first | with_reducible exact nI_inc _ | exact rfl) (by decide) ?_
    refine v_goto (tgt := 9) dX4_rowsWith_25 (by decide) ?_
    refine v_loc2 (by repeat' (first | with_reducible exact lsub_n | with_reducible refine lsub_c ?_ ?_ | with_reducible refine lk_hit ?_ | with_reducible refine lk_miss (by decide) ?_ ?_ | exact rfl)) (IH (n + 1) _ ⟨⟨by omega, by omega⟩, rl_L hI2, ?_, fun i h1 h2 => ?_⟩ (by omega))
    · rw [hp_L_L, if_neg (by omega)]; exact hI3
    · rw [hp_L_L]; by_cases z : i = n
      · rw [if_pos ⟨rfl, z⟩]
      · rw [if_neg (fun y => z y.2)]; exact hI4 i h1 (by omega)

theorem c_X4_luck {G : Gv} {h : AH} (hm : MI h) {nT : Nat} (hT : TR_ h nT) (x : Int32) : Ctr G 2 yX4_luck cX4_luck 2 (some .long) [.ref 241, .int x] h 0 0 (PfL h (sp_luck h nT x)) := by
  refine ctr_of (own := RX4) (nm := "luck") (by decide) (Nat.le_of_ble_eq_true rfl) ?_
  have hpt := fp_th h
  have hT0 := TR_fp hpt hT
  refine v_aload_n dX4_luck_0 rfl rfl ?_
  refine v_iconst (v := 0) dX4_luck_1 (by decide) ?_
  refine v_thr fX4_1 dX4_luck_2 hm ?_
  have hm := MI_th hm
  refine v_iload_n dX4_luck_5 rfl rfl ?_
  refine v_iconst (v := (-1)) dX4_luck_6 (by decide) ?_
  refine v_icmp_ge (tgt := 16) dX4_luck_7 (by decide) (fun b7 => ?_) (fun b7 => ?_)
  · skip
    refine v_aload_n dX4_luck_16 rfl rfl ?_
    refine v_iload_n dX4_luck_17 rfl rfl ?_
    refine v_zV mtX4_rowsWith q2192 q2194 qs115 rfl (by decide) dX4_luck_18 (c_X4_rowsWith hm hT0 _) (mK_obj hm) (by decide) (fun r18 h18 q18 z18 => ?_)
    obtain ⟨rfl, hrl18⟩ := q18
    have hm : MI h18 := rl_m hrl18 hm
    first | exact v_retl dX4_luck_21 rfl ⟨_, fp_tr hpt (fp_rl hrl18), congrArg (fun z => some (Value.long z)) ((rw_fp hpt nT x).trans (luck_f (Int32.not_lt.mpr b7)).symm), rfl⟩ | exact v_retl dX4_luck_21 rfl ⟨_, hpt, congrArg (fun z => some (Value.long z)) (luck_t (Int32.not_le.mp b7)).symm, rfl⟩
  · skip
    refine v_ldc2 (v := (-1 : Int32).toInt64) q2191 dX4_luck_10 (by decide) ?_
    refine v_goto (tgt := 21) dX4_luck_13 (by decide) ?_
    first | exact v_retl dX4_luck_21 rfl ⟨_, fp_tr hpt (fp_rl hrl18), congrArg (fun z => some (Value.long z)) ((rw_fp hpt nT x).trans (luck_f (Int32.not_lt.mpr b7)).symm), rfl⟩ | exact v_retl dX4_luck_21 rfl ⟨_, hpt, congrArg (fun z => some (Value.long z)) (luck_t (Int32.not_le.mp b7)).symm, rfl⟩

theorem c_X4_chanceOf {G : Gv} {h : AH} (hm : MI h) {nT : Nat} (hT : TR_ h nT) (x : Int32) : Ctr G 2 yX4_chanceOf cX4_chanceOf 4 (some .int) [.ref 241, .int x] h 0 0 (fun q h1 => q = some (.int (cho_ h nT x)) ∧ rl_ h h1) := by
  refine ctr_of (own := RX4) (nm := "chanceOf") (by decide) (Nat.le_of_ble_eq_true rfl) ?_
  refine v_aload_n dX4_chanceOf_0 rfl rfl ?_
  refine v_iload_n dX4_chanceOf_1 rfl rfl ?_
  refine v_zV mtX4_rowsWith q2192 q2194 qs115 rfl (by decide) dX4_chanceOf_2 (c_X4_rowsWith hm hT _) (mK_obj hm) (by decide) (fun r2 h2 q2 z2 => ?_)
  obtain ⟨rfl, hrl2⟩ := q2
  have hm : MI h2 := rl_m hrl2 hm
  refine v_lstore_n dX4_chanceOf_5 rfl (by decide) ?_
  have hT2 := TR_fp (fp_rl hrl2) hT
  refine v_ldc2 (v := (1000000 : Int32).toInt64) q2201 dX4_chanceOf_6 (by decide) ?_
  refine v_lload_n dX4_chanceOf_9 rfl rfl ?_
  refine v_lmul dX4_chanceOf_10 ?_
  refine v_aload_n dX4_chanceOf_11 rfl rfl ?_
  refine v_iconst (v := -1) dX4_chanceOf_12 (by decide) ?_
  refine v_zV mtX4_rowsWith q2192 q2194 qs115 rfl (by decide) dX4_chanceOf_13 (c_X4_rowsWith hm hT2 (-1)) (mK_obj hm) (by decide) (fun r13 h13 q13 z13 => ?_)
  obtain ⟨rfl, hrl13⟩ := q13
  have hm : MI h13 := rl_m hrl13 hm
  rw [rw_rl hrl2]
  refine v_ldiv dX4_chanceOf_16 (rw_ne hT) ?_
  refine v_l2i dX4_chanceOf_17 ?_
  exact v_reti dX4_chanceOf_18 rfl ⟨rfl, rl_tr hrl2 hrl13⟩

set_option maxHeartbeats 1000000 in
theorem c_X4_chance {G : Gv} {h : AH} (hm : MI h) {nT : Nat} (hT : TR_ h nT) (x r : Int32) : Ctr G 3 yX4_chance cX4_chance 7 (some .int) [.ref 241, .int x, .int r] h 0 0 (Pf h (sp_chance h nT x r)) := by
  refine ctr_of (own := RX4) (nm := "chance") (by decide) (Nat.le_of_ble_eq_true rfl) ?_
  have hpt := fp_th h
  have hT0 := TR_fp hpt hT
  refine v_aload_n dX4_chance_0 rfl rfl ?_
  refine v_iconst (v := 0) dX4_chance_1 (by decide) ?_
  refine v_thr fX4_1 dX4_chance_2 hm ?_
  have hm := MI_th hm
  refine v_cut 23 (0 ≤ x ∧ (1 ≤ r ∧ r ≤ 100)) (fun hz23 => ?_) (fun hc23 => ?_)
  · skip
    obtain ⟨rn, hrn, rfl⟩ := nI_rngE (x := r) (n := 100) ⟨by have := hz23.2.1; grind, hz23.2.2⟩ (by decide)
    refine v_ldc2 (v := (1000000 : Int32).toInt64) q2201 dX4_chance_23 (by decide) ?_
    refine v_lstore_n dX4_chance_26 rfl (by decide) ?_
    refine v_aload_n dX4_chance_27 rfl rfl ?_
    refine v_iload_n dX4_chance_28 rfl rfl ?_
    refine v_zV mtX4_chanceOf q2202 q2204 qs116 rfl (by decide) dX4_chance_29 (c_X4_chanceOf hm hT0 _) (mK_obj hm) (by decide) (fun r29 h29 q29 z29 => ?_)
    obtain ⟨rfl, hrl29⟩ := q29
    have hm : MI h29 := rl_m hrl29 hm
    refine v_istore dX4_chance_32 (by decide) ?_
    refine v_iconst (v := 0) dX4_chance_34 (by decide) ?_
    refine v_istore dX4_chance_35 (by decide) ?_
    refine v_loc2 (by repeat' (first | with_reducible exact lsub_n | with_reducible refine lsub_c ?_ ?_ | with_reducible refine lk_hit ?_ | with_reducible refine lk_miss (by decide) ?_ ?_ | exact rfl)) (v_lp1 (fun (k : Nat) => rn - k) (fun (k : Nat) => k ≤ rn) (fun (k : Nat) => [(0, .ref 241), (1, .int x), (2, .int (nI rn)), (3, .long (chx_ (cho_ (th_ h) nT x) k)), (5, .int (cho_ (th_ h) nT x)), (6, .int (nI k))]) (fun _ => []) (fun (k : Nat) => h29) ?_ 0 (Nat.zero_le _))
    intro k hK IHk
    refine v_iload dX4_chance_37 rfl ?_
    refine v_iload_n dX4_chance_39 rfl rfl ?_
    refine v_icmp_ge (tgt := 63) dX4_chance_40 (by decide) (fun b40 => ?_) (fun b40 => ?_)
    · skip
      rw [nI_leI (by omega) (by omega)] at b40
      have hk : rn = k := by omega
      subst hk
      refine v_ldcw q2206 dX4_chance_63 ?_
      refine v_lload_n dX4_chance_66 rfl rfl ?_
      refine v_l2i dX4_chance_67 ?_
      refine v_isub dX4_chance_68 ?_
      exact v_reti dX4_chance_69 rfl (Pf_i (fp_tr hpt (fp_rl hrl29)) (by unfold sp_chance; rw [cf_t hz23, nI_clamp (by omega), show cho_ h nT x = cho_ (th_ h) nT x from by unfold cho_; rw [rw_fp hpt, rw_fp hpt]]))
    · skip
      rw [nI_leI (by omega) (by omega)] at b40
      have hk : k < rn := by omega
      refine v_lload_n dX4_chance_43 rfl rfl ?_
      refine v_ldcw q2206 dX4_chance_44 ?_
      refine v_iload dX4_chance_47 rfl ?_
      refine v_isub dX4_chance_49 ?_
      refine v_i2l dX4_chance_50 ?_
      refine v_lmul dX4_chance_51 ?_
      refine v_ldc2 (v := (1000000 : Int32).toInt64) q2201 dX4_chance_52 (by decide) ?_
      refine v_ldiv dX4_chance_55 (by decide) ?_
      refine v_lstore_n dX4_chance_56 rfl (by decide) ?_
      refine v_iinc dX4_chance_57 rfl (by first | with_reducible exact nI_inc _ | exact rfl) (by decide) ?_
      refine v_goto (tgt := 37) dX4_chance_60 (by decide) ?_
      refine v_loc2 (by repeat' (first | with_reducible exact lsub_n | with_reducible refine lsub_c ?_ ?_ | with_reducible refine lk_hit ?_ | with_reducible refine lk_miss (by decide) ?_ ?_ | exact rfl)) (IHk (k + 1) (by omega) (by omega))
  · skip
    refine v_cut 21 (¬ (0 ≤ x ∧ (1 ≤ r ∧ r ≤ 100))) (fun hz21 => ?_) (fun hc21 => ?_)
    · skip
      refine v_iconst (v := (-1)) dX4_chance_21 (by decide) ?_
      exact v_reti dX4_chance_22 rfl (Pf_i hpt (by unfold sp_chance; rw [cf_f hz21]))
    · skip
      refine v_iload_n dX4_chance_5 rfl rfl ?_
      refine v_if_lt (tgt := 21) dX4_chance_6 (by decide) (fun b6 => ?_) (fun b6 => ?_)
      · skip
        exact hc21 (by (try simp only [b2i_0, b2i_n0] at *); grind)
      · skip
        refine v_iload_n dX4_chance_9 rfl rfl ?_
        refine v_i2l dX4_chance_10 ?_
        refine v_lconst (v := (1 : Int32).toInt64) dX4_chance_11 (by decide) ?_
        refine v_ldc2 (v := (100 : Int32).toInt64) q2200 dX4_chance_12 (by decide) ?_
        refine v_pS mtX4_within q1790 q1791 dX4_chance_15 (c_X4_within _ _ _) (by decide) ?_
        refine v_if_ne (tgt := 23) dX4_chance_18 (by decide) (fun b18 => ?_) (fun b18 => ?_)
        · skip
          exact hc23 (by (try simp only [b2i_0, b2i_n0] at *); grind)
        · skip
          exact hc21 (by (try simp only [b2i_0, b2i_n0] at *); grind)

set_option maxHeartbeats 1000000 in
theorem c_X4_fair {G : Gv} {h : AH} {sN nC : Nat} (hS : MS_ h sN nC) {nW nT : Nat} (hW : WX_ h nW) (hT : TR_ h nT) (S x l th g s e : Int32) : Ctr G 8 yX4_fair cX4_fair 8 (some .int) [.ref 241, .int S, .int x, .int l, .int th, .int g, .int s, .int e] h 0 0 (Pf h (sp_fair h sN nC nW nT S x l th g s e)) := by
  refine ctr_of (own := RX4) (nm := "fair") (by decide) (Nat.le_of_ble_eq_true rfl) ?_
  have hm := hS.1
  have hS0 := MS_th hS
  have hs := hS.2.1
  have hv := hS.2.2.1
  have h3 := sv_s hv
  have hpt := fp_th h
  have hC8 := hS.2.2.2.2.1
  have hCt : hp_I (th_ h) 241 48 = nI nC := hS.2.2.2.1
  refine v_aload_n dX4_fair_0 rfl rfl ?_
  refine v_iconst (v := 0) dX4_fair_1 (by decide) ?_
  refine v_thr fX4_1 dX4_fair_2 hm ?_
  have hm := MI_th hm
  refine v_cut 46 ((0 ≤ S ∧ S ≤ nI (2 ^ nC - 1)) ∧ tsk_ h th g s e ∧ 0 ≤ x ∧ (0 ≤ l ∧ l ≤ 1000000)) (fun hz46 => ?_) (fun hc46 => ?_)
  · skip
    obtain ⟨q1, ⟨q4, q5, q6⟩, q7, q8⟩ := hz46
    rw [(sv_laid hv).2] at q4
    rw [hs] at q5
    have hlaid := (sv_laid hv).1
    obtain ⟨thn, hthn, rfl⟩ := nI_rng q4 (by omega)
    obtain ⟨gn, hgn, rfl⟩ := nI_rngE q5 (by omega)
    obtain ⟨sn, en, hse, hen, rfl, rfl⟩ := sec2 q6
    refine v_aload_n dX4_fair_46 rfl rfl ?_
    refine v_iload_n dX4_fair_47 rfl rfl ?_
    refine v_iload dX4_fair_48 rfl ?_
    refine v_iload dX4_fair_50 rfl ?_
    refine v_iload dX4_fair_52 rfl ?_
    refine v_iload dX4_fair_54 rfl ?_
    refine v_zV mtX4_doesClose q2162 q2164 qs113 rfl (by decide) dX4_fair_56 (c_X4_doesClose (th := thn) (g := gn) (s := sn) (e := en) hS0 (WX_th hW) _ hthn (by omega) hse (by omega)) (mK_obj hm) (by decide) (fun r56 h56 q56 z56 => ?_)
    obtain ⟨rfl, hfx56⟩ := q56
    have hm : MI h56 := (fx_MS hS0 hfx56).1
    have hpx : fp_ h h56 := fp_tr hpt (fp_fx hfx56)
    rw [th_33, th_ct, propext dc_th]
    refine v_if_ne (tgt := 66) dX4_fair_59 (by decide) (fun b59 => ?_) (fun b59 => ?_)
    · skip
      rw [b2c_n0] at b59
      refine v_aload_n dX4_fair_66 rfl rfl ?_
      refine v_iload_n dX4_fair_67 rfl rfl ?_
      refine v_zV mtX4_chanceOf q2202 q2204 qs116 rfl (by decide) dX4_fair_68 (c_X4_chanceOf hm (TR_fp hpx hT) _) (mK_obj hm) (by decide) (fun r68 h68 q68 z68 => ?_)
      obtain ⟨rfl, hrl68⟩ := q68
      have hm : MI h68 := rl_m hrl68 hm
      rw [show cho_ h56 nT x = cho_ h nT x from by unfold cho_; rw [rw_fp hpx, rw_fp hpx]]
      refine v_iload_n dX4_fair_71 rfl rfl ?_
      refine v_icmp_le (tgt := 79) dX4_fair_72 (by decide) (fun b72 => ?_) (fun b72 => ?_)
      · skip
        refine v_aload_n dX4_fair_79 rfl rfl ?_
        refine v_getI fX4_125 dX4_fair_80 (mK_obj hm) ?_
        rw [show hp_I h68 241 56 = nI nT from by rw [hrl68.2.2.2.1, fp_I hpx 56 (by decide)]; exact hT.1]
        refine v_iload_n dX4_fair_83 rfl rfl ?_
        refine v_icmp_ge (tgt := 91) dX4_fair_84 (by decide) (fun b84 => ?_) (fun b84 => ?_)
        · skip
          refine v_iconst (v := 0) dX4_fair_91 (by decide) ?_
          refine v_reti dX4_fair_92 rfl (Pf_i (by first | exact fp_tr hpx (fp_rl hrl68) | exact hpx) ?_)
          unfold sp_fair
          rw [← hs] at q5
          rw [← (sv_laid hv).2] at q4
          rw [cf_t ⟨q1, ⟨q4, q5, q6⟩, q7, q8⟩]
          simp (disch := omega) only [nI_clamp]
          refine congrArg (fun z => (z, _)) ?_
          first | exact cf_t b59 | (rw [cf_f (fun z => z b59)]; first | exact cf_t (Int32.not_le.mp b72) | (rw [cf_f (Int32.not_lt.mpr b72)]; first | exact cf_t (Int32.not_le.mp b84) | exact cf_f (Int32.not_lt.mpr b84)))
        · skip
          refine v_iconst (v := 3) dX4_fair_87 (by decide) ?_
          refine v_goto (tgt := 92) dX4_fair_88 (by decide) ?_
          refine v_reti dX4_fair_92 rfl (Pf_i (by first | exact fp_tr hpx (fp_rl hrl68) | exact hpx) ?_)
          unfold sp_fair
          rw [← hs] at q5
          rw [← (sv_laid hv).2] at q4
          rw [cf_t ⟨q1, ⟨q4, q5, q6⟩, q7, q8⟩]
          simp (disch := omega) only [nI_clamp]
          refine congrArg (fun z => (z, _)) ?_
          first | exact cf_t b59 | (rw [cf_f (fun z => z b59)]; first | exact cf_t (Int32.not_le.mp b72) | (rw [cf_f (Int32.not_lt.mpr b72)]; first | exact cf_t (Int32.not_le.mp b84) | exact cf_f (Int32.not_lt.mpr b84)))
      · skip
        refine v_iconst (v := 2) dX4_fair_75 (by decide) ?_
        refine v_goto (tgt := 92) dX4_fair_76 (by decide) ?_
        refine v_reti dX4_fair_92 rfl (Pf_i (by first | exact fp_tr hpx (fp_rl hrl68) | exact hpx) ?_)
        unfold sp_fair
        rw [← hs] at q5
        rw [← (sv_laid hv).2] at q4
        rw [cf_t ⟨q1, ⟨q4, q5, q6⟩, q7, q8⟩]
        simp (disch := omega) only [nI_clamp]
        refine congrArg (fun z => (z, _)) ?_
        first | exact cf_t b59 | (rw [cf_f (fun z => z b59)]; first | exact cf_t (Int32.not_le.mp b72) | (rw [cf_f (Int32.not_lt.mpr b72)]; first | exact cf_t (Int32.not_le.mp b84) | exact cf_f (Int32.not_lt.mpr b84)))
    · skip
      rw [b2c_0] at b59
      refine v_iconst (v := 1) dX4_fair_62 (by decide) ?_
      refine v_goto (tgt := 92) dX4_fair_63 (by decide) ?_
      refine v_reti dX4_fair_92 rfl (Pf_i (by first | exact fp_tr hpx (fp_rl hrl68) | exact hpx) ?_)
      unfold sp_fair
      rw [← hs] at q5
      rw [← (sv_laid hv).2] at q4
      rw [cf_t ⟨q1, ⟨q4, q5, q6⟩, q7, q8⟩]
      simp (disch := omega) only [nI_clamp]
      refine congrArg (fun z => (z, _)) ?_
      first | exact cf_t b59 | (rw [cf_f (fun z => z b59)]; first | exact cf_t (Int32.not_le.mp b72) | (rw [cf_f (Int32.not_lt.mpr b72)]; first | exact cf_t (Int32.not_le.mp b84) | exact cf_f (Int32.not_lt.mpr b84)))
  · skip
    refine v_cut 44 (¬ ((0 ≤ S ∧ S ≤ nI (2 ^ nC - 1)) ∧ tsk_ h th g s e ∧ 0 ≤ x ∧ (0 ≤ l ∧ l ≤ 1000000))) (fun hz44 => ?_) (fun hc44 => ?_)
    · skip
      refine v_iconst (v := (-1)) dX4_fair_44 (by decide) ?_
      exact v_reti dX4_fair_45 rfl (Pf_i hpt (by unfold sp_fair; rw [cf_f hz44]))
    · skip
      refine v_aload_n dX4_fair_5 rfl rfl ?_
      refine v_iload_n dX4_fair_6 rfl rfl ?_
      refine v_pV mtX4_isSet q2158 q2160 qs112 rfl (by decide) dX4_fair_7 (c_X4_isSet hm hCt hC8 _) (mK_obj hm) (by decide) ?_
      refine v_if_eq (tgt := 44) dX4_fair_10 (by decide) (fun b10 => ?_) (fun b10 => ?_)
      · skip
        exact hc44 (by unfold tsk_; (try simp only [b2i_0, b2i_n0] at *); (try simp only [th_4, th_33] at *); grind)
      · skip
        refine v_aload_n dX4_fair_13 rfl rfl ?_
        refine v_iload dX4_fair_14 rfl ?_
        refine v_iload dX4_fair_16 rfl ?_
        refine v_iload dX4_fair_18 rfl ?_
        refine v_iload dX4_fair_20 rfl ?_
        refine v_pV mtX4_isTask q2000 q2002 qs85 rfl (by decide) dX4_fair_22 (c_X4_isTask hm _ _ _ _) (mK_obj hm) (by decide) ?_
        refine v_if_eq (tgt := 44) dX4_fair_25 (by decide) (fun b25 => ?_) (fun b25 => ?_)
        · skip
          exact hc44 (by unfold tsk_; (try simp only [b2i_0, b2i_n0] at *); (try simp only [th_4, th_33] at *); grind)
        · skip
          refine v_iload_n dX4_fair_28 rfl rfl ?_
          refine v_if_lt (tgt := 44) dX4_fair_29 (by decide) (fun b29 => ?_) (fun b29 => ?_)
          · skip
            exact hc44 (by unfold tsk_; (try simp only [b2i_0, b2i_n0] at *); (try simp only [th_4, th_33] at *); grind)
          · skip
            refine v_iload_n dX4_fair_32 rfl rfl ?_
            refine v_i2l dX4_fair_33 ?_
            refine v_lconst (v := (0 : Int32).toInt64) dX4_fair_34 (by decide) ?_
            refine v_ldc2 (v := (1000000 : Int32).toInt64) q2201 dX4_fair_35 (by decide) ?_
            refine v_pS mtX4_within q1790 q1791 dX4_fair_38 (c_X4_within _ _ _) (by decide) ?_
            refine v_if_ne (tgt := 46) dX4_fair_41 (by decide) (fun b41 => ?_) (fun b41 => ?_)
            · skip
              exact hc46 (by unfold tsk_; (try simp only [b2i_0, b2i_n0] at *); (try simp only [th_4, th_33] at *); grind)
            · skip
              exact hc44 (by unfold tsk_; (try simp only [b2i_0, b2i_n0] at *); (try simp only [th_4, th_33] at *); grind)

