set_option maxRecDepth 100000
/-- a sitting's row, for so many seats -/
def nLed (A : Nat → Int32) : Nat := (A 4880).toNatClampNeg
def nLaid (A : Nat → Int32) : Nat := (A 4881).toNatClampNeg
def nMov (A : Nat → Int32) : Nat := (A 4882).toNatClampNeg
def in_ (x : Int32) (n : Nat) : Prop := ∃ k, k < n ∧ x = nI k
def sv_ok (A : Nat → Int32) (sN : Nat) : Prop := (3 ≤ sN ∧ sN ≤ 9) ∧ (nLed A ≤ 12 ∧ A 4880 = nI (nLed A)) ∧ (nLaid A ≤ 8 ∧ A 4881 = nI (nLaid A)) ∧ (nMov A ≤ 40 ∧ A 4882 = nI (nMov A)) ∧
  (∀ t, t < 100 → in_ (A t) 10) ∧ (∀ p, p < 9 → in_ (A (100 + p)) 10 ∧ in_ (A (110 + p)) 10) ∧ (∀ p t, p < 9 → t < 100 → A (120 + 100 * p + t) = -1 ∨ in_ (A (120 + 100 * p + t)) (sN + 1)) ∧
  (∀ k, k < nLed A → in_ (A (1020 + 4 * k)) (sN + 1) ∧ in_ (A (1020 + 4 * k + 1)) 10 ∧ in_ (A (1020 + 4 * k + 2)) 100 ∧ in_ (A (1020 + 4 * k + 3)) 100) ∧
  (∀ a t, a < 18 → t < 100 → A (1070 + 100 * a + t) = -1 ∨ in_ (A (1070 + 100 * a + t)) (2 * sN)) ∧
  (∀ a t, a < 18 → t < 100 → A (2870 + 100 * a + t) = -1 ∨ ∃ k, k < 2 * sN ∧ k / 2 ≠ a / 2 ∧ A (2870 + 100 * a + t) = nI k) ∧
  (∀ i, i < nLaid A → in_ (A (4670 + i)) (sN + 1)) ∧
  (∀ m, m < nMov A → in_ (A (4680 + 5 * m)) (2 * sN) ∧ in_ (A (4680 + 5 * m + 1)) 8 ∧ in_ (A (4680 + 5 * m + 2)) (sN + 1) ∧ in_ (A (4680 + 5 * m + 3)) 100 ∧ in_ (A (4680 + 5 * m + 4)) (sN + 1))
theorem sv_s {A : Nat → Int32} {sN : Nat} (h : sv_ok A sN) : 3 ≤ sN ∧ sN ≤ 9 := h.1
theorem sv_led {A : Nat → Int32} {sN : Nat} (h : sv_ok A sN) : nLed A ≤ 12 ∧ A 4880 = nI (nLed A) := h.2.1
theorem sv_laid {A : Nat → Int32} {sN : Nat} (h : sv_ok A sN) : nLaid A ≤ 8 ∧ A 4881 = nI (nLaid A) := h.2.2.1
theorem sv_mov {A : Nat → Int32} {sN : Nat} (h : sv_ok A sN) : nMov A ≤ 40 ∧ A 4882 = nI (nMov A) := h.2.2.2.1
theorem sv_light {A : Nat → Int32} {sN : Nat} (h : sv_ok A sN) {t : Nat} (ht : t < 100) : in_ (A t) 10 := h.2.2.2.2.1 t ht
theorem sv_need {A : Nat → Int32} {sN : Nat} (h : sv_ok A sN) {p : Nat} (hp : p < 9) : in_ (A (100 + p)) 10 ∧ in_ (A (110 + p)) 10 := h.2.2.2.2.2.1 p hp
theorem sv_eyes {A : Nat → Int32} {sN : Nat} (h : sv_ok A sN) {p t : Nat} (hp : p < 9) (ht : t < 100) : A (120 + 100 * p + t) = -1 ∨ in_ (A (120 + 100 * p + t)) (sN + 1) := h.2.2.2.2.2.2.1 p t hp ht
theorem sv_lead {A : Nat → Int32} {sN : Nat} (h : sv_ok A sN) {k : Nat} (hk : k < nLed A) : in_ (A (1020 + 4 * k)) (sN + 1) ∧ in_ (A (1020 + 4 * k + 1)) 10 ∧ in_ (A (1020 + 4 * k + 2)) 100 ∧ in_ (A (1020 + 4 * k + 3)) 100 := h.2.2.2.2.2.2.2.1 k hk
theorem sv_seems {A : Nat → Int32} {sN : Nat} (h : sv_ok A sN) {a t : Nat} (ha : a < 18) (ht : t < 100) : A (1070 + 100 * a + t) = -1 ∨ in_ (A (1070 + 100 * a + t)) (2 * sN) := h.2.2.2.2.2.2.2.2.1 a t ha ht
theorem sv_truly {A : Nat → Int32} {sN : Nat} (h : sv_ok A sN) {a t : Nat} (ha : a < 18) (ht : t < 100) : A (2870 + 100 * a + t) = -1 ∨ ∃ k, k < 2 * sN ∧ k / 2 ≠ a / 2 ∧ A (2870 + 100 * a + t) = nI k := h.2.2.2.2.2.2.2.2.2.1 a t ha ht
theorem sv_thing {A : Nat → Int32} {sN : Nat} (h : sv_ok A sN) {i : Nat} (hi : i < nLaid A) : in_ (A (4670 + i)) (sN + 1) := h.2.2.2.2.2.2.2.2.2.2.1 i hi
theorem sv_move {A : Nat → Int32} {sN : Nat} (h : sv_ok A sN) {m : Nat} (hm : m < nMov A) : in_ (A (4680 + 5 * m)) (2 * sN) ∧ in_ (A (4680 + 5 * m + 1)) 8 ∧ in_ (A (4680 + 5 * m + 2)) (sN + 1) ∧ in_ (A (4680 + 5 * m + 3)) 100 ∧ in_ (A (4680 + 5 * m + 4)) (sN + 1) := h.2.2.2.2.2.2.2.2.2.2.2 m hm
/-- beside, within reach -/
def bs_ (sN p q : Nat) : Prop := (p + 1) % sN = q ∨ (q + 1) % sN = p
def rc_ (sN p x : Nat) : Prop := x = sN ∨ x = p ∨ (p + 1) % sN = x ∨ (x + 1) % sN = p
/-- where a thing lies behind n moves, of those ahead of a second -/
def wh_ (A : Nat → Int32) (thing : Nat) (s : Int32) : Nat → Int32
  | 0 => A (4670 + thing)
  | n + 1 => if A (4680 + 5 * n + 1) = nI thing ∧ A (4680 + 5 * n + 3) < s then A (4680 + 5 * n + 2) else wh_ A thing s n
theorem wh_s (A : Nat → Int32) (thing : Nat) (s : Int32) (n : Nat) : wh_ A thing s (n + 1) = if A (4680 + 5 * n + 1) = nI thing ∧ A (4680 + 5 * n + 3) < s then A (4680 + 5 * n + 2) else wh_ A thing s n := rfl
theorem c_X4_refuse {G : Gv} {h : AH} (hm : MI h) {k : Nat} (hk : k < 6) : Ctr G 1 yX4_refuse cX4_refuse 2 (some .int) [.ref 241, .int (nI k)] h 0 0 (fun r h1 => r = some (.int (-1)) ∧ h1 = up_I h 242 k (hp_I h 242 k + 1)) := by
  refine ctr_of (own := RX4) (nm := "refuse") (by decide) (Nat.le_of_ble_eq_true rfl) ?_
  refine v_aload_n dX4_refuse_0 rfl rfl ?_
  refine v_getR fX4_7 dX4_refuse_1 (mK_obj hm) (mR_refused hm) ?_ fcA_I
  refine v_iload_n dX4_refuse_4 rfl rfl ?_
  refine v_dup2 dX4_refuse_5 rfl rfl ?_
  refine v_iald dX4_refuse_6 (mK_refused hm) rfl (by first | assumption | omega) ?_
  refine v_iconst (v := 1) dX4_refuse_7 (by decide) ?_
  refine v_iadd dX4_refuse_8 ?_
  refine v_iast dX4_refuse_9 (mK_refused hm) rfl (by first | assumption | omega) ?_
  refine v_iconst (v := (-1)) dX4_refuse_10 (by decide) ?_
  exact v_reti dX4_refuse_11 rfl ⟨rfl, rfl⟩

theorem c_X4_refuses {G : Gv} {h : AH} (hm : MI h) {k : Nat} (hk : k < 6) : Ctr G 1 yX4_refuses cX4_refuses 2 (some .boolean) [.ref 241, .int (nI k)] h 0 0 (fun r h1 => r = some (.int 0) ∧ h1 = up_I h 242 k (hp_I h 242 k + 1)) := by
  refine ctr_of (own := RX4) (nm := "refuses") (by decide) (Nat.le_of_ble_eq_true rfl) ?_
  refine v_aload_n dX4_refuses_0 rfl rfl ?_
  refine v_getR fX4_7 dX4_refuses_1 (mK_obj hm) (mR_refused hm) ?_ fcA_I
  refine v_iload_n dX4_refuses_4 rfl rfl ?_
  refine v_dup2 dX4_refuses_5 rfl rfl ?_
  refine v_iald dX4_refuses_6 (mK_refused hm) rfl (by first | assumption | omega) ?_
  refine v_iconst (v := 1) dX4_refuses_7 (by decide) ?_
  refine v_iadd dX4_refuses_8 ?_
  refine v_iast dX4_refuses_9 (mK_refused hm) rfl (by first | assumption | omega) ?_
  refine v_iconst (v := 0) dX4_refuses_10 (by decide) ?_
  exact v_reti dX4_refuses_11 rfl ⟨rfl, rfl⟩

theorem c_X4_isBeside {G : Gv} {h : AH} (hm : MI h) {sN p q : Nat} (hs : hp_I h 241 4 = nI sN) (h3 : 3 ≤ sN ∧ sN ≤ 9) (hp : p < 1000) (hq : q < 1000) : Ctr G 1 yX4_isBeside cX4_isBeside 3 (some .boolean) [.ref 241, .int (nI p), .int (nI q)] h 0 0 (Pu h (.int (b2i ((p + 1) % sN = q ∨ (q + 1) % sN = p)))) := by
  refine ctr_of (own := RX4) (nm := "isBeside") (by decide) (Nat.le_of_ble_eq_true rfl) ?_
  have hne : ¬ hp_I h 241 4 = 0 := by rw [hs]; exact nI_ne0 (by omega) (by omega)
  have l1 : (p + 1) % sN < sN := Nat.mod_lt _ (by omega)
  have l2 : (q + 1) % sN < sN := Nat.mod_lt _ (by omega)
  refine v_iload_n dX4_isBeside_0 rfl rfl ?_
  refine v_iconst (v := 1) dX4_isBeside_1 (by decide) ?_
  refine v_iadd dX4_isBeside_2 ?_
  refine v_aload_n dX4_isBeside_3 rfl rfl ?_
  refine v_getI fX4_24 dX4_isBeside_4 (mK_obj hm) ?_
  refine v_irem dX4_isBeside_7 hne ?_
  rw [hs, nI_1, pk_rem (by omega) (by omega) (by omega)]
  refine v_iload_n dX4_isBeside_8 rfl rfl ?_
  refine v_icmp_eq (tgt := 24) dX4_isBeside_9 (by decide) (fun b9 => ?_) (fun b9 => ?_)
  · skip
    refine v_iconst (v := 1) dX4_isBeside_24 (by decide) ?_
    refine v_goto (tgt := 29) dX4_isBeside_25 (by decide) ?_
    exact v_reti dX4_isBeside_29 (by first | rfl | exact rt_z) (Pu_i (by simp (disch := omega) only [nI_eq, nI_ltI, nI_leI, nI_m1, m1_nI, b2i_0, b2i_n0] at *; first | exact (b2i_t (by omega)).symm | exact (b2i_f (by omega)).symm))
  · skip
    refine v_iload_n dX4_isBeside_12 rfl rfl ?_
    refine v_iconst (v := 1) dX4_isBeside_13 (by decide) ?_
    refine v_iadd dX4_isBeside_14 ?_
    refine v_aload_n dX4_isBeside_15 rfl rfl ?_
    refine v_getI fX4_24 dX4_isBeside_16 (mK_obj hm) ?_
    refine v_irem dX4_isBeside_19 hne ?_
    rw [hs, nI_1, pk_rem (by omega) (by omega) (by omega)]
    refine v_iload_n dX4_isBeside_20 rfl rfl ?_
    refine v_icmp_ne (tgt := 28) dX4_isBeside_21 (by decide) (fun b21 => ?_) (fun b21 => ?_)
    · skip
      refine v_iconst (v := 0) dX4_isBeside_28 (by decide) ?_
      exact v_reti dX4_isBeside_29 (by first | rfl | exact rt_z) (Pu_i (by simp (disch := omega) only [nI_eq, nI_ltI, nI_leI, nI_m1, m1_nI, b2i_0, b2i_n0] at *; first | exact (b2i_t (by omega)).symm | exact (b2i_f (by omega)).symm))
    · skip
      refine v_iconst (v := 1) dX4_isBeside_24 (by decide) ?_
      refine v_goto (tgt := 29) dX4_isBeside_25 (by decide) ?_
      exact v_reti dX4_isBeside_29 (by first | rfl | exact rt_z) (Pu_i (by simp (disch := omega) only [nI_eq, nI_ltI, nI_leI, nI_m1, m1_nI, b2i_0, b2i_n0] at *; first | exact (b2i_t (by omega)).symm | exact (b2i_f (by omega)).symm))

theorem c_X4_reaches {G : Gv} {h : AH} (hm : MI h) {sN p x : Nat} (hs : hp_I h 241 4 = nI sN) (h3 : 3 ≤ sN ∧ sN ≤ 9) (hp : p < 1000) (hx : x < 1000) : Ctr G 2 yX4_reaches cX4_reaches 3 (some .boolean) [.ref 241, .int (nI p), .int (nI x)] h 0 0 (Pu h (.int (b2i (x = sN ∨ x = p ∨ (p + 1) % sN = x ∨ (x + 1) % sN = p)))) := by
  refine ctr_of (own := RX4) (nm := "reaches") (by decide) (Nat.le_of_ble_eq_true rfl) ?_
  refine v_iload_n dX4_reaches_0 rfl rfl ?_
  refine v_aload_n dX4_reaches_1 rfl rfl ?_
  refine v_getI fX4_24 dX4_reaches_2 (mK_obj hm) ?_
  refine v_icmp_eq (tgt := 22) dX4_reaches_5 (by decide) (fun b5 => ?_) (fun b5 => ?_)
  · skip
    refine v_iconst (v := 1) dX4_reaches_22 (by decide) ?_
    refine v_goto (tgt := 27) dX4_reaches_23 (by decide) ?_
    exact v_reti dX4_reaches_27 (by first | rfl | exact rt_z) (Pu_i (by (try rw [hs] at *); simp (disch := omega) only [nI_eq, nI_ltI, nI_leI, nI_m1, m1_nI, b2i_0, b2i_n0] at *; first | exact (b2i_t (by omega)).symm | exact (b2i_f (by omega)).symm))
  · skip
    refine v_iload_n dX4_reaches_8 rfl rfl ?_
    refine v_iload_n dX4_reaches_9 rfl rfl ?_
    refine v_icmp_eq (tgt := 22) dX4_reaches_10 (by decide) (fun b10 => ?_) (fun b10 => ?_)
    · skip
      refine v_iconst (v := 1) dX4_reaches_22 (by decide) ?_
      refine v_goto (tgt := 27) dX4_reaches_23 (by decide) ?_
      exact v_reti dX4_reaches_27 (by first | rfl | exact rt_z) (Pu_i (by (try rw [hs] at *); simp (disch := omega) only [nI_eq, nI_ltI, nI_leI, nI_m1, m1_nI, b2i_0, b2i_n0] at *; first | exact (b2i_t (by omega)).symm | exact (b2i_f (by omega)).symm))
    · skip
      refine v_aload_n dX4_reaches_13 rfl rfl ?_
      refine v_iload_n dX4_reaches_14 rfl rfl ?_
      refine v_iload_n dX4_reaches_15 rfl rfl ?_
      refine v_pV mtX4_isBeside q1839 q1841 qs63 rfl (by decide) dX4_reaches_16 (c_X4_isBeside hm hs h3 ?_ ?_) (mK_obj hm) (by decide) ?_
      · omega
      · omega
      refine v_if_eq (tgt := 26) dX4_reaches_19 (by decide) (fun b19 => ?_) (fun b19 => ?_)
      · skip
        refine v_iconst (v := 0) dX4_reaches_26 (by decide) ?_
        exact v_reti dX4_reaches_27 (by first | rfl | exact rt_z) (Pu_i (by (try rw [hs] at *); simp (disch := omega) only [nI_eq, nI_ltI, nI_leI, nI_m1, m1_nI, b2i_0, b2i_n0] at *; first | exact (b2i_t (by omega)).symm | exact (b2i_f (by omega)).symm))
      · skip
        refine v_iconst (v := 1) dX4_reaches_22 (by decide) ?_
        refine v_goto (tgt := 27) dX4_reaches_23 (by decide) ?_
        exact v_reti dX4_reaches_27 (by first | rfl | exact rt_z) (Pu_i (by (try rw [hs] at *); simp (disch := omega) only [nI_eq, nI_ltI, nI_leI, nI_m1, m1_nI, b2i_0, b2i_n0] at *; first | exact (b2i_t (by omega)).symm | exact (b2i_f (by omega)).symm))

theorem c_X4_isThing {G : Gv} {h : AH} (hm : MI h) (x : Int32) : Ctr G 1 yX4_isThing cX4_isThing 2 (some .boolean) [.ref 241, .int x] h 0 0 (Pu h (.int (b2i (0 ≤ x ∧ x < hp_I h 243 4881)))) := by
  refine ctr_of (own := RX4) (nm := "isThing") (by decide) (Nat.le_of_ble_eq_true rfl) ?_
  refine v_iload_n dX4_isThing_0 rfl rfl ?_
  refine v_if_lt (tgt := 20) dX4_isThing_1 (by decide) (fun b1 => ?_) (fun b1 => ?_)
  · skip
    refine v_iconst (v := 0) dX4_isThing_20 (by decide) ?_
    exact v_reti dX4_isThing_21 (by first | rfl | exact rt_z) (Pu_i (by first | rfl | exact (b2i_t (by first | assumption | omega | grind)).symm | exact (b2i_f (by first | assumption | omega | grind)).symm))
  · skip
    refine v_iload_n dX4_isThing_4 rfl rfl ?_
    refine v_aload_n dX4_isThing_5 rfl rfl ?_
    refine v_getR fX4_17 dX4_isThing_6 (mK_obj hm) (mR_all hm) ?_ fcA_I
    refine v_sipush (v := 4881) dX4_isThing_9 (by decide) ?_
    refine v_iald dX4_isThing_12 (mK_all hm) (ix_lit _) (by first | assumption | omega) ?_
    refine v_icmp_ge (tgt := 20) dX4_isThing_13 (by decide) (fun b13 => ?_) (fun b13 => ?_)
    · skip
      refine v_iconst (v := 0) dX4_isThing_20 (by decide) ?_
      exact v_reti dX4_isThing_21 (by first | rfl | exact rt_z) (Pu_i (by first | rfl | exact (b2i_t (by first | assumption | omega | grind)).symm | exact (b2i_f (by first | assumption | omega | grind)).symm))
    · skip
      refine v_iconst (v := 1) dX4_isThing_16 (by decide) ?_
      refine v_goto (tgt := 21) dX4_isThing_17 (by decide) ?_
      exact v_reti dX4_isThing_21 (by first | rfl | exact rt_z) (Pu_i (by first | rfl | exact (b2i_t (by first | assumption | omega | grind)).symm | exact (b2i_f (by first | assumption | omega | grind)).symm))

theorem c_X4_moveOf {G : Gv} {h : AH} (hm : MI h) {m j : Nat} (hj : 5 * m + j < 10000) : Ctr G 1 yX4_moveOf cX4_moveOf 3 (some .int) [.ref 241, .int (nI m), .int (nI j)] h 0 0 (Pu h (.int (hp_I h 243 (4680 + 5 * m + j)))) := by
  refine ctr_of (own := RX4) (nm := "moveOf") (by decide) (Nat.le_of_ble_eq_true rfl) ?_
  refine v_aload_n dX4_moveOf_0 rfl rfl ?_
  refine v_getR fX4_17 dX4_moveOf_1 (mK_obj hm) (mR_all hm) ?_ fcA_I
  refine v_sipush (v := 4680) dX4_moveOf_4 (by decide) ?_
  refine v_iconst (v := 5) dX4_moveOf_7 (by decide) ?_
  refine v_iload_n dX4_moveOf_8 rfl rfl ?_
  refine v_imul dX4_moveOf_9 ?_
  refine v_iadd dX4_moveOf_10 ?_
  refine v_iload_n dX4_moveOf_11 rfl rfl ?_
  refine v_iadd dX4_moveOf_12 ?_
  refine v_iald dX4_moveOf_13 (mK_all hm) (ix_add (ix_add (ix_lit _) (ix_mul (ix_lit _) rfl)) rfl) (by first | assumption | omega) ?_
  exact v_reti dX4_moveOf_14 rfl (Pu_i (by first | rfl | exact (b2i_t (by first | assumption | omega | grind)).symm | exact (b2i_f (by first | assumption | omega | grind)).symm))

theorem c_X4_ahead {G : Gv} {h : AH} (hm : MI h) {sN thing : Nat} (hv : sv_ok (hp_I h 243) sN) (ht : thing < 8) (s : Int32) : Ctr G 2 yX4_ahead cX4_ahead 5 (some .int) [.ref 241, .int (nI thing), .int s] h 0 0 (Pu h (.int (wh_ (hp_I h 243) thing s (nMov (hp_I h 243))))) := by
  refine ctr_of (own := RX4) (nm := "ahead") (by decide) (Nat.le_of_ble_eq_true rfl) ?_
  obtain ⟨hM1, hM2⟩ := sv_mov hv
  refine v_aload_n dX4_ahead_0 rfl rfl ?_
  refine v_getR fX4_17 dX4_ahead_1 (mK_obj hm) (mR_all hm) ?_ fcA_I
  refine v_sipush (v := 4670) dX4_ahead_4 (by decide) ?_
  refine v_iload_n dX4_ahead_7 rfl rfl ?_
  refine v_iadd dX4_ahead_8 ?_
  refine v_iald dX4_ahead_9 (mK_all hm) (ix_add (ix_lit _) rfl) (by first | assumption | omega) ?_
  refine v_istore_n dX4_ahead_10 rfl (by decide) ?_
  refine v_iconst (v := 0) dX4_ahead_11 (by decide) ?_
  refine v_istore dX4_ahead_12 (by decide) ?_
  refine v_loc2 (by repeat' (first | exact trivial | refine And.intro ?_ ?_ | exact rfl)) (v_lp2 (fun (k : Nat) (b : Int32) => nMov (hp_I h 243) - k) (fun (k : Nat) (b : Int32) => k ≤ nMov (hp_I h 243) ∧ b = wh_ (hp_I h 243) thing s k) (fun (k : Nat) (b : Int32) => [(0, .ref 241), (1, .int (nI thing)), (2, .int s), (3, .int b), (4, .int (nI k))]) (fun (k : Nat) (b : Int32) => h) ?_ 0 _ ⟨Nat.zero_le _, rfl⟩)
  intro k b hI IH
  obtain ⟨hI1, hI2⟩ := hI
  refine v_iload dX4_ahead_14 rfl ?_
  refine v_aload_n dX4_ahead_16 rfl rfl ?_
  refine v_getR fX4_17 dX4_ahead_17 (mK_obj hm) (mR_all hm) ?_ fcA_I
  refine v_sipush (v := 4882) dX4_ahead_20 (by decide) ?_
  refine v_iald dX4_ahead_23 (mK_all hm) (ix_lit _) (by first | assumption | omega) ?_
  refine v_icmp_ge (tgt := 63) dX4_ahead_24 (by decide) (fun b24 => ?_) (fun b24 => ?_)
  · skip
    refine v_iload_n dX4_ahead_63 rfl rfl ?_
    rw [hM2, nI_leI (by omega) (by omega)] at b24
    exact v_reti dX4_ahead_64 rfl (Pu_i (by rw [hI2, Nat.le_antisymm hI1 b24]))
  · skip
    rw [hM2] at b24
    rw [nI_leI (by omega) (by omega)] at b24
    refine v_aload_n dX4_ahead_27 rfl rfl ?_
    refine v_iload dX4_ahead_28 rfl ?_
    refine v_iconst (v := nI 1) dX4_ahead_30 (by decide) ?_
    refine v_pV mtX4_moveOf q1878 q1880 qs70 rfl (by decide) dX4_ahead_31 (c_X4_moveOf hm ?_) (mK_obj hm) (by decide) ?_
    · omega
    refine v_iload_n dX4_ahead_34 rfl rfl ?_
    refine v_icmp_ne (tgt := 57) dX4_ahead_35 (by decide) (fun b35 => ?_) (fun b35 => ?_)
    · skip
      refine v_iinc dX4_ahead_57 rfl (by first | with_reducible exact nI_inc _ | exact rfl) (by decide) ?_
      refine v_goto (tgt := 14) dX4_ahead_60 (by decide) ?_
      refine v_loc2 (l' := [(0, .ref 241), (1, .int (nI thing)), (2, .int s), (3, .int (wh_ (hp_I h 243) thing s (k + 1))), (4, .int (nI (k + 1)))]) (And.intro rfl (And.intro rfl (And.intro rfl (And.intro ?_ (And.intro rfl trivial))))) (IH (k + 1) _ ⟨by omega, rfl⟩ (by omega))
      refine congrArg (fun z => some (Value.int z)) ?_
      subst hI2
      rw [wh_s]
      first | rfl | (split <;> first | rfl | (exfalso; grind) | grind)
    · skip
      refine v_aload_n dX4_ahead_38 rfl rfl ?_
      refine v_iload dX4_ahead_39 rfl ?_
      refine v_iconst (v := nI 3) dX4_ahead_41 (by decide) ?_
      refine v_pV mtX4_moveOf q1878 q1880 qs70 rfl (by decide) dX4_ahead_42 (c_X4_moveOf hm ?_) (mK_obj hm) (by decide) ?_
      · omega
      refine v_iload_n dX4_ahead_45 rfl rfl ?_
      refine v_icmp_ge (tgt := 57) dX4_ahead_46 (by decide) (fun b46 => ?_) (fun b46 => ?_)
      · skip
        refine v_iinc dX4_ahead_57 rfl (by first | with_reducible exact nI_inc _ | exact rfl) (by decide) ?_
        refine v_goto (tgt := 14) dX4_ahead_60 (by decide) ?_
        refine v_loc2 (l' := [(0, .ref 241), (1, .int (nI thing)), (2, .int s), (3, .int (wh_ (hp_I h 243) thing s (k + 1))), (4, .int (nI (k + 1)))]) (And.intro rfl (And.intro rfl (And.intro rfl (And.intro ?_ (And.intro rfl trivial))))) (IH (k + 1) _ ⟨by omega, rfl⟩ (by omega))
        refine congrArg (fun z => some (Value.int z)) ?_
        subst hI2
        rw [wh_s]
        first | rfl | (split <;> first | rfl | (exfalso; grind) | grind)
      · skip
        refine v_aload_n dX4_ahead_49 rfl rfl ?_
        refine v_iload dX4_ahead_50 rfl ?_
        refine v_iconst (v := nI 2) dX4_ahead_52 (by decide) ?_
        refine v_pV mtX4_moveOf q1878 q1880 qs70 rfl (by decide) dX4_ahead_53 (c_X4_moveOf hm ?_) (mK_obj hm) (by decide) ?_
        · omega
        refine v_istore_n dX4_ahead_56 rfl (by decide) ?_
        refine v_iinc dX4_ahead_57 rfl (by first | with_reducible exact nI_inc _ | exact rfl) (by decide) ?_
        refine v_goto (tgt := 14) dX4_ahead_60 (by decide) ?_
        refine v_loc2 (l' := [(0, .ref 241), (1, .int (nI thing)), (2, .int s), (3, .int (wh_ (hp_I h 243) thing s (k + 1))), (4, .int (nI (k + 1)))]) (And.intro rfl (And.intro rfl (And.intro rfl (And.intro ?_ (And.intro rfl trivial))))) (IH (k + 1) _ ⟨by omega, rfl⟩ (by omega))
        refine congrArg (fun z => some (Value.int z)) ?_
        subst hI2
        rw [wh_s]
        first | rfl | (split <;> first | rfl | (exfalso; grind) | grind)

