set_option maxRecDepth 100000
/-- the run's fields and the fitted row alone differ -/
def fz_ (h h' : AH) : Prop := hp_n h' = hp_n h ∧ hp_K h' = hp_K h ∧ hp_R h' = hp_R h ∧ hp_L h' = hp_L h ∧ (∀ p, p ≠ 269 → p ≠ 241 → hp_I h' p = hp_I h p) ∧ ∀ f, (f < 36 ∨ 41 < f) → hp_I h' 241 f = hp_I h 241 f
theorem fz_r6 {h h1 : AH} (a : r6_ h h1) : fz_ h h1 := ⟨a.1, a.2.1, a.2.2.1, a.2.2.2.1, fun p _ hp => a.2.2.2.2.1 p hp, a.2.2.2.2.2⟩
theorem fz_rf (h : AH) : fz_ h h := fz_r6 (r6_rf h)
theorem fz_tr {h h1 h2 : AH} (a : fz_ h h1) (b : fz_ h1 h2) : fz_ h h2 := ⟨b.1.trans a.1, b.2.1.trans a.2.1, b.2.2.1.trans a.2.2.1, b.2.2.2.1.trans a.2.2.2.1, fun p hp h3 => (b.2.2.2.2.1 p hp h3).trans (a.2.2.2.2.1 p hp h3), fun f hf => (b.2.2.2.2.2 f hf).trans (a.2.2.2.2.2 f hf)⟩
theorem fz_I {h h1 : AH} {k : Nat} {v : Int32} (a : fz_ h h1) : fz_ h (up_I h1 269 k v) := ⟨a.1, a.2.1, a.2.2.1, a.2.2.2.1, fun p hp h3 => by rw [II_n hp]; exact a.2.2.2.2.1 p hp h3, fun f hf => by rw [hp_I_I, if_neg (fun z => absurd z.1 (by decide))]; exact a.2.2.2.2.2 f hf⟩
theorem fz_m {h h1 : AH} (a : fz_ h h1) (hm : MI h) : MI h1 := MI_of hm (fun p _ _ => by rw [a.2.1]) (fun k => by rw [a.2.2.1])
theorem fz_LD {A : Nat → Int32} {C : Nat → Nat → Int32} {nC sN : Nat} {S : Int32} {h h1 : AH} (hL : LD_ A C nC sN S h) (a : fz_ h h1) : LD_ A C nC sN S h1 := ⟨fz_m a hL.1, by rw [a.2.2.2.2.2 4 (by omega)]; exact hL.2.1, by rw [a.2.2.2.2.1 243 (by decide) (by decide)]; exact hL.2.2.1, fun t ht j hj s hs => by rw [a.2.2.2.2.1 (245 + j) (by omega) (by omega)]; exact hL.2.2.2 t ht j hj s hs⟩
theorem fz_WX {h h1 : AH} {nW : Nat} (a : WX_ h nW) (f : fz_ h h1) : WX_ h1 nW := by
  refine ⟨by rw [f.2.2.2.2.2 15 (by omega)]; exact a.1, a.2.1, ?_⟩
  rw [f.2.2.2.2.1 254 (by decide) (by decide), f.2.2.2.2.1 255 (by decide) (by decide), f.2.2.2.2.1 256 (by decide) (by decide), f.2.2.2.2.1 257 (by decide) (by decide)]
  exact a.2.2
theorem fiv_fz {A : Nat → Int32} {C : Nat → Nat → Int32} {nC sN : Nat} {S : Int32} {h h1 : AH} {w p f th g s e : Nat} (a : fz_ h h1) : fiv_ A C nC sN S h1 w p f th g s e = fiv_ A C nC sN S h w p f th g s e :=
  fiv_h (a.2.2.2.2.1 254 (by decide) (by decide)) (a.2.2.2.2.1 255 (by decide) (by decide)) (a.2.2.2.2.1 256 (by decide) (by decide)) (a.2.2.2.2.1 257 (by decide) (by decide))
set_option maxHeartbeats 1000000 in
theorem c_X4_fitsAll {G : Gv} {h : AH} {sN nC : Nat} (hS : MS_ h sN nC) {nW th g s e : Nat} (hW : WX_ h nW) (S : Int32) (hth : th < nLaid (hp_I h 243)) (hg : g ≤ sN) (hse : s ≤ e) (he : e < 100) : Ctr G 7 yX4_fitsAll cX4_fitsAll 8 none [.ref 241, .int S, .int (nI th), .int (nI g), .int (nI s), .int (nI e)] h 0 0 (fun q h1 => q = none ∧ (∃ h2, fx_ h h2 ∧ fz_ h2 h1) ∧ ∀ w, w < nW → ∀ p, p < sN → hp_I h1 269 (8 * p + w) = b2c (¬ fiv_ (hp_I h 243) (ct_ h) nC sN S h w p 0 th g s e = -1)) := by
  refine ctr_of (own := RX4) (nm := "fitsAll") (by decide) (Nat.le_of_ble_eq_true rfl) ?_
  have hm := hS.1
  have hv := hS.2.2.1
  have h3 := sv_s hv
  have hW2 := hW.2.1
  refine v_aload_n dX4_fitsAll_0 rfl rfl ?_
  refine v_iload_n dX4_fitsAll_1 rfl rfl ?_
  refine v_zV mtX4_lays q1855 q1857 qs65 rfl (by decide) dX4_fitsAll_2 (c_lays hS _) (mK_obj hm) (by decide) (fun r2 h2 q2 z2 => ?_)
  obtain ⟨rfl, hL0⟩ := q2
  have hL : LD_ (hp_I h 243) (ct_ h) nC sN S h2 := LY_LD hS hL0
  have hm : MI h2 := hL.1
  have hfx := fx_fr hL0.1
  refine v_iconst (v := 0) dX4_fitsAll_5 (by decide) ?_
  refine v_istore dX4_fitsAll_6 (by decide) ?_
  refine v_loc2 (by repeat' (first | with_reducible exact lsub_n | with_reducible refine lsub_c ?_ ?_ | with_reducible refine lk_hit ?_ | with_reducible refine lk_miss (by decide) ?_ ?_ | exact rfl)) (v_lp2 (fun (w : Nat) (hh : AH) => nW - w) (fun (w : Nat) (hh : AH) => w ≤ nW ∧ fz_ h2 hh ∧ ∀ i, i < w → ∀ p, p < sN → hp_I hh 269 (8 * p + i) = b2c (¬ fiv_ (hp_I h 243) (ct_ h) nC sN S h i p 0 th g s e = -1)) (fun (w : Nat) (hh : AH) => [(0, .ref 241), (1, .int S), (2, .int (nI th)), (3, .int (nI g)), (4, .int (nI s)), (5, .int (nI e)), (6, .int (nI w))]) (fun (w : Nat) (hh : AH) => hh) ?_ 0 _ ⟨Nat.zero_le _, fz_rf _, fun i hi => absurd hi (Nat.not_lt_zero i)⟩)
  intro w hh hI IH
  obtain ⟨hI1, hr, hI2⟩ := hI
  have hm : MI hh := fz_m hr hL.1
  refine v_iload dX4_fitsAll_8 rfl ?_
  refine v_aload_n dX4_fitsAll_10 rfl rfl ?_
  refine v_getI fX4_297 dX4_fitsAll_11 (mK_obj hm) ?_
  rw [hr.2.2.2.2.2 15 (by omega), hfx.2.2.2.2.2 15 (by omega), hW.1]
  refine v_icmp_ge (tgt := 78) dX4_fitsAll_14 (by decide) (fun b14 => ?_) (fun b14 => ?_)
  · skip
    rw [nI_leI (by omega) (by omega)] at b14
    have hk : nW = w := by omega
    exact v_retv dX4_fitsAll_78 trivial ⟨rfl, ⟨_, hfx, hr⟩, fun w hw p hp => hI2 w (by omega) p hp⟩
  · skip
    rw [nI_leI (by omega) (by omega)] at b14
    have hk : w < nW := by omega
    refine v_iconst (v := 0) dX4_fitsAll_17 (by decide) ?_
    refine v_istore dX4_fitsAll_18 (by decide) ?_
    refine v_loc2 (by repeat' (first | with_reducible exact lsub_n | with_reducible refine lsub_c ?_ ?_ | with_reducible refine lk_hit ?_ | with_reducible refine lk_miss (by decide) ?_ ?_ | exact rfl)) (v_lp2 (fun (p : Nat) (hi : AH) => sN - p) (fun (p : Nat) (hi : AH) => p ≤ sN ∧ fz_ h2 hi ∧ (∀ q, q < p → hp_I hi 269 (8 * q + w) = b2c (¬ fiv_ (hp_I h 243) (ct_ h) nC sN S h w q 0 th g s e = -1)) ∧ ∀ i, i < w → ∀ p, p < sN → hp_I hi 269 (8 * p + i) = b2c (¬ fiv_ (hp_I h 243) (ct_ h) nC sN S h i p 0 th g s e = -1)) (fun (p : Nat) (hi : AH) => [(0, .ref 241), (1, .int S), (2, .int (nI th)), (3, .int (nI g)), (4, .int (nI s)), (5, .int (nI e)), (6, .int (nI w)), (7, .int (nI p))]) (fun (p : Nat) (hi : AH) => hi) ?_ 0 _ ⟨Nat.zero_le _, hr, fun i hi => absurd hi (Nat.not_lt_zero i), hI2⟩)
    intro p hi hJ IHj
    obtain ⟨hJ1, hrr, hJ2, hJ3⟩ := hJ
    have hm : MI hi := fz_m hrr hL.1
    refine v_iload dX4_fitsAll_20 rfl ?_
    refine v_aload_n dX4_fitsAll_22 rfl rfl ?_
    refine v_getI fX4_24 dX4_fitsAll_23 (mK_obj hm) ?_
    rw [hrr.2.2.2.2.2 4 (by omega), hL.2.1]
    refine v_icmp_ge (tgt := 72) dX4_fitsAll_26 (by decide) (fun b26 => ?_) (fun b26 => ?_)
    · skip
      rw [nI_leI (by omega) (by omega)] at b26
      have hk2 : sN = p := by omega
      refine v_iinc dX4_fitsAll_72 rfl (by first | with_reducible exact nI_inc _ | exact rfl) (by decide) ?_
      refine v_goto (tgt := 8) dX4_fitsAll_75 (by decide) ?_
      refine v_loc2 (by repeat' (first | with_reducible exact lsub_n | with_reducible refine lsub_c ?_ ?_ | with_reducible refine lk_hit ?_ | with_reducible refine lk_miss (by decide) ?_ ?_ | exact rfl)) (IH (w + 1) _ ⟨by omega, hrr, fun i hi => (Nat.lt_succ_iff_lt_or_eq.mp hi).elim (fun u => hJ3 i u) (fun y => by rw [y]; exact fun p hp => hJ2 p (by omega))⟩ (by omega))
    · skip
      rw [nI_leI (by omega) (by omega)] at b26
      have hk2 : p < sN := by omega
      obtain ⟨kn, hst, hwk⟩ := (fz_WX (fx_WX hW hfx) hrr).2.2 w hk
      refine v_aload_n dX4_fitsAll_29 rfl rfl ?_
      refine v_getR fX4_103 dX4_fitsAll_30 (mK_obj hm) (mR_fitted hm) ?_ fcA_Z
      refine v_bipush (v := nI 8) dX4_fitsAll_33 (by decide) ?_
      refine v_iload dX4_fitsAll_35 rfl ?_
      refine v_imul dX4_fitsAll_37 ?_
      refine v_iload dX4_fitsAll_38 rfl ?_
      refine v_iadd dX4_fitsAll_40 ?_
      refine v_aload_n dX4_fitsAll_41 rfl rfl ?_
      refine v_iload dX4_fitsAll_42 rfl ?_
      refine v_iload dX4_fitsAll_44 rfl ?_
      refine v_iconst (v := nI 0) dX4_fitsAll_46 (by decide) ?_
      refine v_iload_n dX4_fitsAll_47 rfl rfl ?_
      refine v_iload_n dX4_fitsAll_48 rfl rfl ?_
      refine v_iload dX4_fitsAll_49 rfl ?_
      refine v_iload dX4_fitsAll_51 rfl ?_
      refine v_zV mtX4_fitsAt q2004 q2006 qs86 rfl (by decide) dX4_fitsAll_53 (c_X4_fitsAt (k := kn) (w := w) (p := p) (f := 0) (th := th) (g := g) (s := s) (e := e) hv (fz_LD hL hrr) hk2 (by decide) hth hg hse he (by omega) hst hwk) (mK_obj hm) (by decide) (fun r53 h53 q53 z53 => ?_)
      obtain ⟨rfl, hr6⟩ := q53
      have hm : MI h53 := r6_m hr6 hm
      rw [fiv_k hst hwk.1, fiv_fz hrr, fiv_fx hfx]
      have hr9 := fz_tr hrr (fz_r6 hr6)
      refine v_iconst (v := (-1)) dX4_fitsAll_56 (by decide) ?_
      refine v_icmp_eq (tgt := 64) dX4_fitsAll_57 (by decide) (fun b57 => ?_) (fun b57 => ?_)
      · skip
        have hq : (0 : Int32) = b2c (¬ fiv_ (hp_I h 243) (ct_ h) nC sN S h w p 0 th g s e = -1) := (b2c_f (fun z => z b57)).symm
        refine v_iconst (v := 0) dX4_fitsAll_64 (by decide) ?_
        refine v_zast dX4_fitsAll_65 (mK_fitted hm) (ix_add (ix_mul rfl rfl) rfl) (by first | assumption | omega) (by first | exact Or.inl rfl | exact Or.inr rfl | exact b2i_01 | assumption) ?_
        refine v_iinc dX4_fitsAll_66 rfl (by first | with_reducible exact nI_inc _ | exact rfl) (by decide) ?_
        refine v_goto (tgt := 20) dX4_fitsAll_69 (by decide) ?_
        refine v_loc2 (by repeat' (first | with_reducible exact lsub_n | with_reducible refine lsub_c ?_ ?_ | with_reducible refine lk_hit ?_ | with_reducible refine lk_miss (by decide) ?_ ?_ | exact rfl)) (IHj (p + 1) _ ⟨by omega, fz_I hr9, fun q hq9 => ?_, fun i hi9 q hq9 => ?_⟩ (by omega))
        · rcases Nat.lt_succ_iff_lt_or_eq.mp hq9 with u | u
          · rw [hp_I_I, if_neg (by omega), hr6.2.2.2.2.1 269 (by decide)]; exact hJ2 q u
          · subst u; rw [hp_I_I, if_pos ⟨rfl, rfl⟩]; exact hq
        · rw [hp_I_I, if_neg (by omega), hr6.2.2.2.2.1 269 (by decide)]; exact hJ3 i hi9 q hq9
      · skip
        have hq : (1 : Int32) = b2c (¬ fiv_ (hp_I h 243) (ct_ h) nC sN S h w p 0 th g s e = -1) := (b2c_t b57).symm
        refine v_iconst (v := 1) dX4_fitsAll_60 (by decide) ?_
        refine v_goto (tgt := 65) dX4_fitsAll_61 (by decide) ?_
        refine v_zast dX4_fitsAll_65 (mK_fitted hm) (ix_add (ix_mul rfl rfl) rfl) (by first | assumption | omega) (by first | exact Or.inl rfl | exact Or.inr rfl | exact b2i_01 | assumption) ?_
        refine v_iinc dX4_fitsAll_66 rfl (by first | with_reducible exact nI_inc _ | exact rfl) (by decide) ?_
        refine v_goto (tgt := 20) dX4_fitsAll_69 (by decide) ?_
        refine v_loc2 (by repeat' (first | with_reducible exact lsub_n | with_reducible refine lsub_c ?_ ?_ | with_reducible refine lk_hit ?_ | with_reducible refine lk_miss (by decide) ?_ ?_ | exact rfl)) (IHj (p + 1) _ ⟨by omega, fz_I hr9, fun q hq9 => ?_, fun i hi9 q hq9 => ?_⟩ (by omega))
        · rcases Nat.lt_succ_iff_lt_or_eq.mp hq9 with u | u
          · rw [hp_I_I, if_neg (by omega), hr6.2.2.2.2.1 269 (by decide)]; exact hJ2 q u
          · subst u; rw [hp_I_I, if_pos ⟨rfl, rfl⟩]; exact hq
        · rw [hp_I_I, if_neg (by omega), hr6.2.2.2.2.1 269 (by decide)]; exact hJ3 i hi9 q hq9

