set_option maxRecDepth 100000
theorem NJ_30 {h : AH} (hK : hp_K h 30 = (1, 0)) : NJ_ (fun q => q = 30) h := fun q z hd => by
  rw [z, hK] at hd
  unfold dk_ at hd
  rcases hd with z | z | z | z | z | z | z
  · exact absurd z (by decide)
  · exact absurd z (by decide)
  · exact absurd z (by decide)
  · exact absurd z (by decide)
  · exact absurd z (by decide)
  · exact absurd z (by decide)
  · exact absurd z (by decide)
theorem XQ_fo {h : AH} {b nC sN : Nat} {A : Nat → Int32} {C : Nat → Nat → Int32} {S x : Int32} (hq : XQ_ h b A C nC sN S) (hk : kd_ok h) : XQ_ (up_I h 30 5 x) b A C nC sN x := by
  obtain ⟨⟨o1, o2, o3, o4, o5⟩, q2, q3, q4, q5⟩ := hq
  have hj := NJ_30 o1
  have hf : FR_ (fun q => q = 30) h (up_I h 30 5 x) := FR_I (P := fun q => q = 30) rfl
  exact ⟨⟨o1, by rw [hp_I_I, if_neg (by decide)]; exact o2, o3, by rw [hp_I_I, if_pos ⟨rfl, rfl⟩], XC_eq o5 rfl rfl⟩, SI_J q2 hf hk hj, CS_J q3 hf hk hj, q4, q5⟩
theorem WE_fo {h : AH} {q w k : Nat} {K Z M : Nat → Int32} {x : Int32} (hs : WE_ h q K Z M w k) (hk : kd_ok h) (hK : hp_K h 30 = (1, 0)) : WE_ (up_I h 30 5 x) q K Z M w k := WE_J hs (FR_I (P := fun q => q = 30) rfl) hk (NJ_30 hK)
theorem R9_fo {h h1 : AH} {S : Int32} (a : R9_ 0 (up_I h 30 5 S) h1) (h0 : hp_I h 30 5 = 0) : R9_ 0 h (up_I h1 30 5 0) := ⟨a.1, a.2.1, a.2.2.1, a.2.2.2.1, fun q k z => by
  rw [hp_I_I]
  by_cases e : q = 30 ∧ k = 5
  · rw [if_pos e, e.1, e.2]; exact h0.symm
  · rw [if_neg e, a.2.2.2.2 q k z, hp_I_I, if_neg e]⟩
theorem v_getK {G : Gv} {d : Nat} {own nm : String} {cc : ByteArray} {nL : Nat} {ret : Option FieldType} {mc ms : Nat} {Q : Option Value → AH → Prop} {pc : Nat} {l : List (Nat × Value)} {st : List Value} {h : AH} {idx k p r : Nat} {C : Nat → Nat → Int32} {d1 d2 d3 : String} {a1 a2 a3 n1 n2 n3 : Bool} (hE : CL_ h p C r) (f1 : fd_ own idx 22 k "I" a1 d1 n1) (f2 : fd_ own idx 23 k "I" a2 d2 n2) (f3 : fd_ own idx 24 k "I" a3 d3 n3) (hdg : decode cc pc = .ok (.getfield idx, 3)) (kk : Vv G d own nm cc nL ret mc ms Q (pc + 3) l (.int (hp_I h p k) :: st) h) : Vv G d own nm cc nL ret mc ms Q pc l (.ref p :: st) h := by
  rcases hE.2 with ⟨z, -⟩ | ⟨z, -⟩ | ⟨z, -⟩
  · exact v_getI f1 hdg z kk
  · exact v_getI f2 hdg z kk
  · exact v_getI f3 hdg z kk
def dca_ (A : Nat → Int32) (C : Nat → Nat → Int32) (nC sN : Nat) (S : Int32) (N K Z M : Nat → Int32) (nW th g s e : Nat) : Prop := ∀ w, w < nW → ∀ p, p < sN → fia_ A C nC sN S N K Z M w p 0 th g s e = -1
noncomputable def an_closes (A : Nat → Int32) (C : Nat → Nat → Int32) (nC sN : Nat) (N K Z M : Nat → Int32) (nW : Nat) (S th g s e : Int32) : Int32 := cf_ ((0 ≤ S ∧ S ≤ nI (2 ^ nC - 1)) ∧ tka_ A sN th g s e) (b2c (dca_ A C nC sN S N K Z M nW th.toNatClampNeg g.toNatClampNeg s.toNatClampNeg e.toNatClampNeg)) (-1)
noncomputable def cha_ (A : Nat → Int32) (C : Nat → Nat → Int32) (nC sN : Nat) (N K Z M : Nat → Int32) (nW th g s e : Nat) : Nat → Int32 × Int32
  | 0 => (-1, 0)
  | k + 1 => cf_ (cb_ (cha_ A C nC sN N K Z M nW th g s e k).1 (cha_ A C nC sN N K Z M nW th g s e k).2 (co_ C k nC) k ∧ dca_ A C nC sN (nI k) N K Z M nW th g s e) (nI k, co_ C k nC) (cha_ A C nC sN N K Z M nW th g s e k)
theorem cha_s (A : Nat → Int32) (C : Nat → Nat → Int32) (nC sN : Nat) (N K Z M : Nat → Int32) (nW th g s e k : Nat) : cha_ A C nC sN N K Z M nW th g s e (k + 1) = cf_ (cb_ (cha_ A C nC sN N K Z M nW th g s e k).1 (cha_ A C nC sN N K Z M nW th g s e k).2 (co_ C k nC) k ∧ dca_ A C nC sN (nI k) N K Z M nW th g s e) (nI k, co_ C k nC) (cha_ A C nC sN N K Z M nW th g s e k) := rfl
theorem cha_i (A : Nat → Int32) (C : Nat → Nat → Int32) (nC sN : Nat) (N K Z M : Nat → Int32) (nW th g s e : Nat) : ∀ k, (cha_ A C nC sN N K Z M nW th g s e k).1 = -1 ∨ ∃ j, j < k ∧ (cha_ A C nC sN N K Z M nW th g s e k).1 = nI j ∧ (cha_ A C nC sN N K Z M nW th g s e k).2 = co_ C j nC
  | 0 => Or.inl rfl
  | k + 1 => by
    rw [cha_s]
    by_cases z : cb_ (cha_ A C nC sN N K Z M nW th g s e k).1 (cha_ A C nC sN N K Z M nW th g s e k).2 (co_ C k nC) k ∧ dca_ A C nC sN (nI k) N K Z M nW th g s e
    · rw [cf_t z]; exact Or.inr ⟨k, by omega, rfl, rfl⟩
    · rw [cf_f z]
      rcases cha_i A C nC sN N K Z M nW th g s e k with y | ⟨j, h1, h2⟩
      · exact Or.inl y
      · exact Or.inr ⟨j, by omega, h2⟩
noncomputable def an_cheapest (A : Nat → Int32) (C : Nat → Nat → Int32) (nC sN : Nat) (N K Z M : Nat → Int32) (nW : Nat) (th g s e x : Int32) : Int32 := cf_ (tka_ A sN th g s e ∧ (0 ≤ x ∧ x ≤ 1)) (cf_ ((cha_ A C nC sN N K Z M nW th.toNatClampNeg g.toNatClampNeg s.toNatClampNeg e.toNatClampNeg (2 ^ nC)).1 = -1) (-1) (cf_ (x = 0) (cha_ A C nC sN N K Z M nW th.toNatClampNeg g.toNatClampNeg s.toNatClampNeg e.toNatClampNeg (2 ^ nC)).1 (cha_ A C nC sN N K Z M nW th.toNatClampNeg g.toNatClampNeg s.toNatClampNeg e.toNatClampNeg (2 ^ nC)).2)) (-1)
def opa_ (A : Nat → Int32) (C : Nat → Nat → Int32) (nC sN : Nat) (N K Z M : Nat → Int32) (c th g s e w p : Nat) : Prop := fia_ A C nC sN 0 N K Z M w p 0 th g s e = -1 ∧ ¬ fia_ A C nC sN (nI (2 ^ c)) N K Z M w p 0 th g s e = -1
noncomputable def an_opens (A : Nat → Int32) (C : Nat → Nat → Int32) (nC sN : Nat) (N K Z M : Nat → Int32) (nW : Nat) (c th g s e : Int32) : Int32 := cf_ ((0 ≤ c ∧ c < nI nC) ∧ tka_ A sN th g s e) (nI (tc_ (fun w p => opa_ A C nC sN N K Z M c.toNatClampNeg th.toNatClampNeg g.toNatClampNeg s.toNatClampNeg e.toNatClampNeg w p) sN nW)) (-1)
def nya_ (A : Nat → Int32) (C : Nat → Nat → Int32) (nC sN : Nat) (N K Z M T : Nat → Int32) (r k w p : Nat) : Prop := stb_ A C nC sN 0 N K Z M T r w p 0 ∧ stb_ A C nC sN (nI (2 ^ k)) N K Z M T r w p 0
def nza_ (A : Nat → Int32) (C : Nat → Nat → Int32) (nC sN : Nat) (N K Z M T : Nat → Int32) (r k w p : Nat) : Prop := stb_ A C nC sN 0 N K Z M T r w p 0 ∧ ¬ stb_ A C nC sN (nI (2 ^ k)) N K Z M T r w p 0
noncomputable def nma_ (A : Nat → Int32) (C : Nat → Nat → Int32) (nC sN : Nat) (N K Z M T : Nat → Int32) (nW r k : Nat) : Nat := min (tc_ (nya_ A C nC sN N K Z M T r k) sN nW) (tc_ (nza_ A C nC sN N K Z M T r k) sN nW)
noncomputable def nxa_ (A : Nat → Int32) (C : Nat → Nat → Int32) (nC sN : Nat) (N K Z M T : Nat → Int32) (nW r : Nat) (cost : Int32) : Nat → Int32 × Int32
  | 0 => (-1, -1)
  | k + 1 => cf_ (C 5 k ≤ cost ∧ (nxa_ A C nC sN N K Z M T nW r cost k).2 < nI (nma_ A C nC sN N K Z M T nW r k)) (nI k, nI (nma_ A C nC sN N K Z M T nW r k)) (nxa_ A C nC sN N K Z M T nW r cost k)
theorem nxa_s (A : Nat → Int32) (C : Nat → Nat → Int32) (nC sN : Nat) (N K Z M T : Nat → Int32) (nW r : Nat) (cost : Int32) (k : Nat) : nxa_ A C nC sN N K Z M T nW r cost (k + 1) = cf_ (C 5 k ≤ cost ∧ (nxa_ A C nC sN N K Z M T nW r cost k).2 < nI (nma_ A C nC sN N K Z M T nW r k)) (nI k, nI (nma_ A C nC sN N K Z M T nW r k)) (nxa_ A C nC sN N K Z M T nW r cost k) := rfl
noncomputable def an_next (A : Nat → Int32) (C : Nat → Nat → Int32) (nC sN : Nat) (N K Z M T : Nat → Int32) (nW nR : Nat) (r cost : Int32) : Int32 := cf_ ((0 ≤ r ∧ r < nI nR) ∧ T (7 * r.toNatClampNeg + 1) = 0) (nxa_ A C nC sN N K Z M T nW r.toNatClampNeg cost nC).1 (-1)
theorem c_X0_fitsUnder {G : Gv} {h : AH} {b nC sN : Nat} {A : Nat → Int32} {C : Nat → Nat → Int32} (hq : XQ_ h b A C nC sN 0) {N K Z M : Nat → Int32} {wq w : Nat} (hWE : WE_ h wq K Z M w (N w).toNatClampNeg) {p th g a e : Nat} (hp : p < sN) (hth : th < nLaid A) (hg : g ≤ sN) (hae : a ≤ e) (he : e < 100) (S : Int32) : Ctr G 16 yX0_fitsUnder cX0_fitsUnder 9 (some .boolean) [.ref 30, .int S, .ref wq, .int (nI p), .int (nI th), .int (nI g), .int (nI a), .int (nI e)] h 0 0 (fun r h1 => r = some (.int (b2c (¬ fia_ A C nC sN S N K Z M w p 0 th g a e = -1))) ∧ R9_ 0 h h1) := by
  refine ctr_of (own := RX0) (nm := "fitsUnder") (by decide) (Nat.le_of_ble_eq_true rfl) ?_
  refine v_kd fun hkd => ?_
  have hq9 := hq
  obtain ⟨hX, hS, ⟨DC, cC, fC, hCA, hCE⟩, hv, hc⟩ := hq9
  have h39 := sv_s hv
  have h8 := hc.1
  have hk0 := xc_run hX.2.2.2.2
  have hqf := XQ_fo (x := S) hq hkd
  have hWf := WE_fo (x := S) hWE hkd hX.1
  have hf0 := hX.2.2.2.1
  refine v_aload_n dX0_fitsUnder_0 rfl rfl ?_
  refine v_iload_n dX0_fitsUnder_1 rfl rfl ?_
  refine v_putI fX0_196 (.inl rfl) dX0_fitsUnder_2 hX.1 ?_
  refine v_aload_n dX0_fitsUnder_5 rfl rfl ?_
  refine v_aload_n dX0_fitsUnder_6 rfl rfl ?_
  refine v_iload_n dX0_fitsUnder_7 rfl rfl ?_
  refine v_iconst (v := nI 0) dX0_fitsUnder_8 (by decide) ?_
  refine v_iload dX0_fitsUnder_9 rfl ?_
  refine v_iload dX0_fitsUnder_11 rfl ?_
  refine v_iload dX0_fitsUnder_13 rfl ?_
  refine v_iload dX0_fitsUnder_15 rfl ?_
  refine v_zV mtX0_fit q802 q804 qs24 rfl (by decide) dX0_fitsUnder_17 (c_X0_fit (h := up_I h 30 5 S) (k := (N w).toNatClampNeg) (f := 0) hqf hWf hp (by decide) hth hg hae he) hX.1 (by first | decide | omega) (fun r17 h17 q17 z17 => ?_)
  obtain ⟨rfl, hR17⟩ := q17
  rw [fia_e]
  refine v_iconst (v := (-1)) dX0_fitsUnder_20 (by decide) ?_
  refine v_icmp_eq (tgt := 28) dX0_fitsUnder_21 (by decide) (fun b21 => ?_) (fun b21 => ?_)
  · skip
    have hz9 := b2c_f (P := ¬ fia_ A C nC sN S N K Z M w p 0 th g a e = -1) (fun z => z b21)
    refine v_iconst (v := 0) dX0_fitsUnder_28 (by decide) ?_
    refine v_istore dX0_fitsUnder_29 (by decide) ?_
    refine v_aload_n dX0_fitsUnder_31 rfl rfl ?_
    refine v_iconst (v := 0) dX0_fitsUnder_32 (by decide) ?_
    refine v_putI fX0_196 (.inl rfl) dX0_fitsUnder_33 (show hp_K h17 30 = (1, 0) from by rw [hR17.2.1]; exact hX.1) ?_
    refine v_iload dX0_fitsUnder_36 rfl ?_
    exact v_reti dX0_fitsUnder_38 (by first | rfl | exact rt_c) ⟨congrArg (fun z => some (Value.int z)) hz9.symm, R9_fo hR17 hf0⟩
  · skip
    have hz9 := b2c_t (P := ¬ fia_ A C nC sN S N K Z M w p 0 th g a e = -1) b21
    refine v_iconst (v := 1) dX0_fitsUnder_24 (by decide) ?_
    refine v_goto (tgt := 29) dX0_fitsUnder_25 (by decide) ?_
    refine v_istore dX0_fitsUnder_29 (by decide) ?_
    refine v_aload_n dX0_fitsUnder_31 rfl rfl ?_
    refine v_iconst (v := 0) dX0_fitsUnder_32 (by decide) ?_
    refine v_putI fX0_196 (.inl rfl) dX0_fitsUnder_33 (show hp_K h17 30 = (1, 0) from by rw [hR17.2.1]; exact hX.1) ?_
    refine v_iload dX0_fitsUnder_36 rfl ?_
    exact v_reti dX0_fitsUnder_38 (by first | rfl | exact rt_c) ⟨congrArg (fun z => some (Value.int z)) hz9.symm, R9_fo hR17 hf0⟩

set_option maxHeartbeats 1000000 in
theorem c_X0_isClosed {G : Gv} {h : AH} {b nC sN : Nat} {A : Nat → Int32} {C : Nat → Nat → Int32} (hq : XQ_ h b A C nC sN 0) {N K Z M : Nat → Int32} {nW : Nat} (hWS : WS_ h N K Z M nW) {th g a e : Nat} (hth : th < nLaid A) (hg : g ≤ sN) (hae : a ≤ e) (he : e < 100) (S : Int32) : Ctr G 17 yX0_isClosed cX0_isClosed 8 (some .boolean) [.ref 30, .int S, .int (nI th), .int (nI g), .int (nI a), .int (nI e)] h 0 0 (fun r h1 => r = some (.int (b2c (dca_ A C nC sN S N K Z M nW th g a e))) ∧ R9_ 0 h h1) := by
  refine ctr_of (own := RX0) (nm := "isClosed") (by decide) (Nat.le_of_ble_eq_true rfl) ?_
  refine v_kd fun hkd => ?_
  have hq9 := hq
  obtain ⟨hX, hS, ⟨DC, cC, fC, hCA, hCE⟩, hv, hc⟩ := hq9
  have h39 := sv_s hv
  have hWS9 := hWS
  obtain ⟨hW8, hWN, LW, DW, cW, fW, hWR, hWA, hWE9⟩ := hWS9
  have h8 := hc.1
  have hk0 := xc_run hX.2.2.2.2
  refine v_iconst (v := 0) dX0_isClosed_0 (by decide) ?_
  refine v_istore dX0_isClosed_1 (by decide) ?_
  refine v_loc2 (by repeat' (first | exact trivial | refine And.intro ?_ ?_ | exact rfl)) (v_lp2 (fun (w : Nat) (hh : AH) => nW - w) (fun (w : Nat) (hh : AH) => w ≤ nW ∧ R9_ 0 h hh ∧ ∀ i, i < w → ∀ p, p < sN → fia_ A C nC sN S N K Z M i p 0 th g a e = -1) (fun (w : Nat) (hh : AH) => [(0, .ref 30), (1, .int S), (2, .int (nI th)), (3, .int (nI g)), (4, .int (nI a)), (5, .int (nI e)), (6, .int (nI w))]) (fun (w : Nat) (hh : AH) => hh) ?_ 0 _ ⟨Nat.zero_le _, R9_rf, fun i hi => absurd hi (Nat.not_lt_zero _)⟩)
  clear hX hS hCA hCE hWR hWA hWE9
  intro w hh ⟨hI1, hRh, hI⟩ IH
  have hqx := XQ_R9 hq hRh hkd
  have hWSx := WS_R9 hWS hRh hkd hk0
  have hkx := R9_kd hRh hkd
  have hq9 := hqx
  obtain ⟨hX, hS, ⟨DC, cC, fC, hCA, hCE⟩, -, -⟩ := hq9
  have hWS9 := hWSx
  obtain ⟨-, -, LW, DW, cW, fW, hWR, hWA, hWE9⟩ := hWS9
  refine v_iload dX0_isClosed_3 rfl ?_
  refine v_aload_n dX0_isClosed_5 rfl rfl ?_
  refine v_getR fX0_49 dX0_isClosed_6 hX.1 hWR ?_
  refine v_pV mtJ2_size q481 q482 q483 rfl (by decide) dX0_isClosed_9 (c_J2_size hWA) (hWA).1 (by first | decide | omega) ?_
  refine v_icmp_ge (tgt := 69) dX0_isClosed_12 (by decide) (fun b12 => ?_) (fun b12 => ?_)
  · skip
    rw [nI_leI (by omega) (by omega)] at b12
    refine v_iconst (v := 1) dX0_isClosed_69 (by decide) ?_
    exact v_reti dX0_isClosed_70 rfl ⟨congrArg (fun z => some (Value.int z)) (b2c_t (fun i hi p hp => hI i (by omega) p hp)).symm, hRh⟩
  · skip
    rw [nI_leI (by omega) (by omega)] at b12
    have hkw : w < nW := by omega
    refine v_iconst (v := 0) dX0_isClosed_15 (by decide) ?_
    refine v_istore dX0_isClosed_16 (by decide) ?_
    refine v_loc2 (by repeat' (first | exact trivial | refine And.intro ?_ ?_ | exact rfl)) (v_lp2 (fun (p : Nat) (hi : AH) => sN - p) (fun (p : Nat) (hi : AH) => p ≤ sN ∧ R9_ 0 h hi ∧ ∀ i, i < p → fia_ A C nC sN S N K Z M w i 0 th g a e = -1) (fun (p : Nat) (hi : AH) => [(0, .ref 30), (1, .int S), (2, .int (nI th)), (3, .int (nI g)), (4, .int (nI a)), (5, .int (nI e)), (6, .int (nI w)), (7, .int (nI p))]) (fun (p : Nat) (hi : AH) => hi) ?_ 0 _ ⟨Nat.zero_le _, hRh, fun i hi => absurd hi (Nat.not_lt_zero _)⟩)
    clear hX hS hCA hCE hWR hWA hWE9 hqx hWSx hkx
    intro p hi ⟨hJ1, hRr, hJ⟩ IHj
    have hqx := XQ_R9 hq hRr hkd
    have hWSx := WS_R9 hWS hRr hkd hk0
    have hkx := R9_kd hRr hkd
    have hq9 := hqx
    obtain ⟨hX, hS, ⟨DC, cC, fC, hCA, hCE⟩, -, -⟩ := hq9
    have hWS9 := hWSx
    obtain ⟨-, -, LW, DW, cW, fW, hWR, hWA, hWE9⟩ := hWS9
    refine v_iload dX0_isClosed_18 rfl ?_
    refine v_aload_n dX0_isClosed_20 rfl rfl ?_
    refine v_getI fX0_25 dX0_isClosed_21 hX.1 ?_
    rw [hX.2.1]
    refine v_icmp_ge (tgt := 63) dX0_isClosed_24 (by decide) (fun b24 => ?_) (fun b24 => ?_)
    · skip
      rw [nI_leI (by omega) (by omega)] at b24
      refine v_iinc dX0_isClosed_63 rfl (by first | with_reducible exact nI_inc _ | exact rfl) (by decide) ?_
      refine v_goto (tgt := 3) dX0_isClosed_66 (by decide) ?_
      exact v_loc2 (by repeat' (first | exact trivial | refine And.intro ?_ ?_ | exact rfl)) (IH (w + 1) _ ⟨hkw, hRr, fun i hi => (Nat.lt_succ_iff_lt_or_eq.mp hi).elim (hI i) (fun y p hp => by rw [y]; exact hJ p (by omega))⟩ (by omega))
    · skip
      rw [nI_leI (by omega) (by omega)] at b24
      have hkp : p < sN := by omega
      refine v_aload_n dX0_isClosed_27 rfl rfl ?_
      refine v_iload_n dX0_isClosed_28 rfl rfl ?_
      refine v_aload_n dX0_isClosed_29 rfl rfl ?_
      refine v_getR fX0_49 dX0_isClosed_30 hX.1 hWR ?_
      refine v_iload dX0_isClosed_33 rfl ?_
      refine v_pV mtJ2_get q621 q607 q608 rfl (by decide) dX0_isClosed_35 (c_J2_get hWA rfl hkw) (hWA).1 (by first | decide | omega) ?_
      refine v_castS (hWE9 _ hkw).1.1 (by decide) rfl q789 dX0_isClosed_38 ?_
      refine v_iload dX0_isClosed_41 rfl ?_
      refine v_iload_n dX0_isClosed_43 rfl rfl ?_
      refine v_iload_n dX0_isClosed_44 rfl rfl ?_
      refine v_iload dX0_isClosed_45 rfl ?_
      refine v_iload dX0_isClosed_47 rfl ?_
      refine v_zV mtX0_fitsUnder q1528 q1530 qs53 rfl (by decide) dX0_isClosed_49 (c_X0_fitsUnder (N := N) hqx (hWE9 _ hkw) hkp hth hg hae he S) hX.1 (by first | decide | omega) (fun r49 h49 q49 z49 => ?_)
      obtain ⟨rfl, hR49⟩ := q49
      have hRn := R9_tr hRr hR49
      refine v_if_eq (tgt := 57) dX0_isClosed_52 (by decide) (fun b52 => ?_) (fun b52 => ?_)
      · skip
        have hb := Classical.not_not.mp (b2c_0.mp b52)
        refine v_iinc dX0_isClosed_57 rfl (by first | with_reducible exact nI_inc _ | exact rfl) (by decide) ?_
        refine v_goto (tgt := 18) dX0_isClosed_60 (by decide) ?_
        exact v_loc2 (by repeat' (first | exact trivial | refine And.intro ?_ ?_ | exact rfl)) (IHj (p + 1) _ ⟨hkp, hRn, fun i hi => (Nat.lt_succ_iff_lt_or_eq.mp hi).elim (hJ i) (fun y => by rw [y]; exact hb)⟩ (by omega))
      · skip
        have hb := b2c_n0.mp b52
        refine v_iconst (v := 0) dX0_isClosed_55 (by decide) ?_
        exact v_reti dX0_isClosed_56 rfl ⟨congrArg (fun z => some (Value.int z)) (b2c_f (fun z => hb (z w hkw p hkp))).symm, hRn⟩

theorem c_X0_areControls {G : Gv} {h : AH} {b nC sN : Nat} {A : Nat → Int32} {C : Nat → Nat → Int32} (hq : XQ_ h b A C nC sN 0) (x : Int32) : Ctr G 1 yX0_areControls cX0_areControls 2 (some .boolean) [.ref 30, .int x] h 0 0 (Pu h (.int (b2i (0 ≤ x ∧ x < nI (2 ^ nC))))) := by
  refine ctr_of (own := RX0) (nm := "areControls") (by decide) (Nat.le_of_ble_eq_true rfl) ?_
  have hq9 := hq
  obtain ⟨hX, hS, ⟨DC, cC, fC, hCA, hCE⟩, hv, hc⟩ := hq9
  have h39 := sv_s hv
  have h8 := hc.1
  refine v_iload_n dX0_areControls_0 rfl rfl ?_
  refine v_if_lt (tgt := 21) dX0_areControls_1 (by decide) (fun b1 => ?_) (fun b1 => ?_)
  · skip
    refine v_iconst (v := 0) dX0_areControls_21 (by decide) ?_
    exact v_reti dX0_areControls_22 (by first | rfl | exact rt_z) (Pu_i (by (try simp only [Int32.not_lt] at *); first | exact (b2i_t (by grind)).symm | exact (b2i_f (by grind)).symm))
  · skip
    refine v_iload_n dX0_areControls_4 rfl rfl ?_
    refine v_iconst (v := 1) dX0_areControls_5 (by decide) ?_
    refine v_aload_n dX0_areControls_6 rfl rfl ?_
    refine v_getR fX0_45 dX0_areControls_7 hX.1 (xc_Rcontrols hX.2.2.2.2) ?_
    refine v_pV mtJ2_size q481 q482 q483 rfl (by decide) dX0_areControls_10 (c_J2_size hCA) (hCA).1 (by first | decide | omega) ?_
    refine v_ishl dX0_areControls_13 ?_
    rw [sh_1 (by omega)]
    refine v_icmp_ge (tgt := 21) dX0_areControls_14 (by decide) (fun b14 => ?_) (fun b14 => ?_)
    · skip
      refine v_iconst (v := 0) dX0_areControls_21 (by decide) ?_
      exact v_reti dX0_areControls_22 (by first | rfl | exact rt_z) (Pu_i (by (try simp only [Int32.not_lt] at *); first | exact (b2i_t (by grind)).symm | exact (b2i_f (by grind)).symm))
    · skip
      refine v_iconst (v := 1) dX0_areControls_17 (by decide) ?_
      refine v_goto (tgt := 22) dX0_areControls_18 (by decide) ?_
      exact v_reti dX0_areControls_22 (by first | rfl | exact rt_z) (Pu_i (by (try simp only [Int32.not_lt] at *); first | exact (b2i_t (by grind)).symm | exact (b2i_f (by grind)).symm))

theorem c_X0_closes {G : Gv} {h : AH} {b nC sN : Nat} {A : Nat → Int32} {C : Nat → Nat → Int32} (hq : XQ_ h b A C nC sN 0) {N K Z M : Nat → Int32} {nW : Nat} (hWS : WS_ h N K Z M nW) (S th g a e : Int32) : Ctr G 18 yX0_closes cX0_closes 6 (some .int) [.ref 30, .int S, .int th, .int g, .int a, .int e] h 0 0 (fun r h1 => r = some (.int (an_closes A C nC sN N K Z M nW S th g a e)) ∧ R9_ 0 h h1) := by
  refine ctr_of (own := RX0) (nm := "closes") (by decide) (Nat.le_of_ble_eq_true rfl) ?_
  have hq9 := hq
  obtain ⟨hX, hS, ⟨DC, cC, fC, hCA, hCE⟩, hv, hc⟩ := hq9
  have h39 := sv_s hv
  have h8 := hc.1
  have hlaid := sv_laid hv
  refine v_aload_n dX0_closes_0 rfl rfl ?_
  refine v_iload_n dX0_closes_1 rfl rfl ?_
  refine v_pV mtX0_areControls q1520 q1522 qs51 rfl (by decide) dX0_closes_2 (c_X0_areControls hq _) hX.1 (by first | decide | omega) ?_
  refine v_if_eq (tgt := 21) dX0_closes_5 (by decide) (fun b5 => ?_) (fun b5 => ?_)
  · skip
    simp only [b2i_0, b2i_n0, b2c_0, b2c_n0, Classical.not_not] at b5
    refine v_iconst (v := (-1)) dX0_closes_21 (by decide) ?_
    refine v_goto (tgt := 44) dX0_closes_22 (by decide) ?_
    first | refine v_reti dX0_closes_44 rfl ⟨congrArg (fun z => some (Value.int z)) ?_, hR33⟩ | refine v_reti dX0_closes_44 rfl ⟨congrArg (fun z => some (Value.int z)) ?_, R9_rf⟩
    unfold an_closes
    first | rw [cf_f (fun z => b5 ((set_r (by omega)).mpr z.1))] | rw [cf_f (fun z => b18 z.2)] | (rw [cf_t ⟨b5c, b18⟩, nI_clamp (by omega), nI_clamp (by omega), nI_clamp (by omega), nI_clamp (by omega)]; first | exact (b2c_t (b2c_n0.mp b36)).symm | exact (b2c_f (b2c_0.mp b36)).symm)
  · skip
    simp only [b2i_0, b2i_n0, b2c_0, b2c_n0, Classical.not_not] at b5
    refine v_aload_n dX0_closes_8 rfl rfl ?_
    refine v_iload_n dX0_closes_9 rfl rfl ?_
    refine v_iload_n dX0_closes_10 rfl rfl ?_
    refine v_iload dX0_closes_11 rfl ?_
    refine v_iload dX0_closes_13 rfl ?_
    refine v_pV mtX0_isTask q798 q800 qs23 rfl (by decide) dX0_closes_15 (c_X0_isTask hX hS (sv_laid hv).2 (sv_laid hv).1 _ _ _ _) hX.1 (by first | decide | omega) ?_
    refine v_if_ne (tgt := 25) dX0_closes_18 (by decide) (fun b18 => ?_) (fun b18 => ?_)
    · skip
      simp only [b2i_0, b2i_n0, b2c_0, b2c_n0, Classical.not_not] at b18
      have b18c := b18
      obtain ⟨t1, g1, a1, e1, ht1, hg1, hae, he1, rfl, rfl, rfl, rfl⟩ := tka_d hv (show tka_ A sN th g a e from b18c)
      have b5c := (set_r (by omega)).mp b5
      refine v_aload_n dX0_closes_25 rfl rfl ?_
      refine v_iload_n dX0_closes_26 rfl rfl ?_
      refine v_iload_n dX0_closes_27 rfl rfl ?_
      refine v_iload_n dX0_closes_28 rfl rfl ?_
      refine v_iload dX0_closes_29 rfl ?_
      refine v_iload dX0_closes_31 rfl ?_
      refine v_zV mtX0_isClosed q1524 q1526 qs52 rfl (by decide) dX0_closes_33 (c_X0_isClosed hq hWS ht1 hg1 hae he1 S) hX.1 (by first | decide | omega) (fun r33 h33 q33 z33 => ?_)
      obtain ⟨rfl, hR33⟩ := q33
      refine v_if_eq (tgt := 43) dX0_closes_36 (by decide) (fun b36 => ?_) (fun b36 => ?_)
      · skip
        refine v_iconst (v := 0) dX0_closes_43 (by decide) ?_
        first | refine v_reti dX0_closes_44 rfl ⟨congrArg (fun z => some (Value.int z)) ?_, hR33⟩ | refine v_reti dX0_closes_44 rfl ⟨congrArg (fun z => some (Value.int z)) ?_, R9_rf⟩
        unfold an_closes
        first | rw [cf_f (fun z => b5 ((set_r (by omega)).mpr z.1))] | rw [cf_f (fun z => b18 z.2)] | (rw [cf_t ⟨b5c, b18⟩, nI_clamp (by omega), nI_clamp (by omega), nI_clamp (by omega), nI_clamp (by omega)]; first | exact (b2c_t (b2c_n0.mp b36)).symm | exact (b2c_f (b2c_0.mp b36)).symm)
      · skip
        refine v_iconst (v := 1) dX0_closes_39 (by decide) ?_
        refine v_goto (tgt := 44) dX0_closes_40 (by decide) ?_
        first | refine v_reti dX0_closes_44 rfl ⟨congrArg (fun z => some (Value.int z)) ?_, hR33⟩ | refine v_reti dX0_closes_44 rfl ⟨congrArg (fun z => some (Value.int z)) ?_, R9_rf⟩
        unfold an_closes
        first | rw [cf_f (fun z => b5 ((set_r (by omega)).mpr z.1))] | rw [cf_f (fun z => b18 z.2)] | (rw [cf_t ⟨b5c, b18⟩, nI_clamp (by omega), nI_clamp (by omega), nI_clamp (by omega), nI_clamp (by omega)]; first | exact (b2c_t (b2c_n0.mp b36)).symm | exact (b2c_f (b2c_0.mp b36)).symm)
    · skip
      simp only [b2i_0, b2i_n0, b2c_0, b2c_n0, Classical.not_not] at b18
      refine v_iconst (v := (-1)) dX0_closes_21 (by decide) ?_
      refine v_goto (tgt := 44) dX0_closes_22 (by decide) ?_
      first | refine v_reti dX0_closes_44 rfl ⟨congrArg (fun z => some (Value.int z)) ?_, hR33⟩ | refine v_reti dX0_closes_44 rfl ⟨congrArg (fun z => some (Value.int z)) ?_, R9_rf⟩
      unfold an_closes
      first | rw [cf_f (fun z => b5 ((set_r (by omega)).mpr z.1))] | rw [cf_f (fun z => b18 z.2)] | (rw [cf_t ⟨b5c, b18⟩, nI_clamp (by omega), nI_clamp (by omega), nI_clamp (by omega), nI_clamp (by omega)]; first | exact (b2c_t (b2c_n0.mp b36)).symm | exact (b2c_f (b2c_0.mp b36)).symm)

theorem c_X0_costOf {G : Gv} {h : AH} {b nC sN : Nat} {A : Nat → Int32} {C : Nat → Nat → Int32} (hq : XQ_ h b A C nC sN 0) {k : Nat} (hk : k < 2 ^ 31) : Ctr G 4 yX0_costOf cX0_costOf 4 (some .int) [.ref 30, .int (nI k)] h 0 0 (Pu h (.int (co_ C k nC))) := by
  refine ctr_of (own := RX0) (nm := "costOf") (by decide) (Nat.le_of_ble_eq_true rfl) ?_
  have hq9 := hq
  obtain ⟨hX, hS, ⟨DC, cC, fC, hCA, hCE⟩, hv, hc⟩ := hq9
  have h39 := sv_s hv
  have h8 := hc.1
  refine v_iconst (v := 0) dX0_costOf_0 (by decide) ?_
  refine v_istore_n dX0_costOf_1 rfl (by decide) ?_
  refine v_iconst (v := 0) dX0_costOf_2 (by decide) ?_
  refine v_istore_n dX0_costOf_3 rfl (by decide) ?_
  refine v_loc2 (by repeat' (first | exact trivial | refine And.intro ?_ ?_ | exact rfl)) (v_lp1 (fun (n : Nat) => nC - n) (fun (n : Nat) => n ≤ nC) (fun (n : Nat) => [(0, .ref 30), (1, .int (nI k)), (2, .int (co_ C k n)), (3, .int (nI n))]) (fun _ => []) (fun (n : Nat) => h) ?_ 0 (Nat.zero_le _))
  intro n hn IH
  refine v_iload_n dX0_costOf_4 rfl rfl ?_
  refine v_aload_n dX0_costOf_5 rfl rfl ?_
  refine v_getR fX0_45 dX0_costOf_6 hX.1 (xc_Rcontrols hX.2.2.2.2) ?_
  refine v_pV mtJ2_size q481 q482 q483 rfl (by decide) dX0_costOf_9 (c_J2_size hCA) (hCA).1 (by first | decide | omega) ?_
  refine v_icmp_ge (tgt := 51) dX0_costOf_12 (by decide) (fun b12 => ?_) (fun b12 => ?_)
  · skip
    rw [nI_leI (by omega) (by omega)] at b12
    obtain rfl : n = nC := by omega
    refine v_iload_n dX0_costOf_51 rfl rfl ?_
    exact v_reti dX0_costOf_52 rfl (Pu_i rfl)
  · skip
    rw [nI_leI (by omega) (by omega)] at b12
    have hkn : n < nC := by omega
    refine v_iload_n dX0_costOf_15 rfl rfl ?_
    refine v_join 43 (fun z => z = (if k.testBit n = true then C 5 n else 0)) (fun z hz => ?_) (fun hj43 => ?_)
    · skip
      subst hz
      refine v_iadd dX0_costOf_43 ?_
      refine v_istore_n dX0_costOf_44 rfl (by decide) ?_
      refine v_iinc dX0_costOf_45 rfl (by first | with_reducible exact nI_inc _ | exact rfl) (by decide) ?_
      refine v_goto (tgt := 4) dX0_costOf_48 (by decide) ?_
      exact v_loc2 (by repeat' (first | exact trivial | refine And.intro ?_ ?_ | exact rfl)) (IH (n + 1) hkn (by omega))
    · skip
      refine v_iload_n dX0_costOf_16 rfl rfl ?_
      refine v_iload_n dX0_costOf_17 rfl rfl ?_
      refine v_ishr dX0_costOf_18 ?_
      refine v_iconst (v := 1) dX0_costOf_19 (by decide) ?_
      refine v_iand dX0_costOf_20 ?_
      refine v_iconst (v := 1) dX0_costOf_21 (by decide) ?_
      refine v_icmp_ne (tgt := 42) dX0_costOf_22 (by decide) (fun b22 => ?_) (fun b22 => ?_)
      · skip
        rw [show (nI k >>> (nI n &&& 31)) &&& 1 = 1 ↔ _ from has_bit hk (by omega)] at b22
        refine v_iconst (v := 0) dX0_costOf_42 (by decide) ?_
        exact hj43 _ (by first | exact (if_pos b22).symm | exact (if_neg b22).symm)
      · skip
        rw [show (nI k >>> (nI n &&& 31)) &&& 1 = 1 ↔ _ from has_bit hk (by omega)] at b22
        refine v_aload_n dX0_costOf_25 rfl rfl ?_
        refine v_getR fX0_45 dX0_costOf_26 hX.1 (xc_Rcontrols hX.2.2.2.2) ?_
        refine v_iload_n dX0_costOf_29 rfl rfl ?_
        refine v_pV mtJ2_get q621 q607 q608 rfl (by decide) dX0_costOf_30 (c_J2_get hCA rfl hkn) (hCA).1 (by first | decide | omega) ?_
        refine v_castU (cl_KO (hCE _ hkn)) q639 dX0_costOf_33 ?_
        refine v_getK (hCE _ hkn) fX0_464_X22 fX0_464_X23 fX0_464_X24 dX0_costOf_36 ?_
        rw [(hCE _ hkn).1.2.2]
        refine v_goto (tgt := 43) dX0_costOf_39 (by decide) ?_
        exact hj43 _ (by first | exact (if_pos b22).symm | exact (if_neg b22).symm)

set_option maxHeartbeats 1000000 in
theorem c_X0_cheapest {G : Gv} {h : AH} {b nC sN : Nat} {A : Nat → Int32} {C : Nat → Nat → Int32} (hq : XQ_ h b A C nC sN 0) {N K Z M : Nat → Int32} {nW : Nat} (hWS : WS_ h N K Z M nW) (th g a e x : Int32) : Ctr G 18 yX0_cheapest cX0_cheapest 8 (some .int) [.ref 30, .int th, .int g, .int a, .int e, .int x] h 0 0 (fun r h1 => r = some (.int (an_cheapest A C nC sN N K Z M nW th g a e x)) ∧ R9_ 0 h h1) := by
  refine ctr_of (own := RX0) (nm := "cheapest") (by decide) (Nat.le_of_ble_eq_true rfl) ?_
  refine v_kd fun hkd => ?_
  have hq9 := hq
  obtain ⟨hX, hS, ⟨DC, cC, fC, hCA, hCE⟩, hv, hc⟩ := hq9
  have h39 := sv_s hv
  have h8 := hc.1
  have hlaid := sv_laid hv
  have hk0 := xc_run hX.2.2.2.2
  have hp8 : 2 ^ nC ≤ 2 ^ 8 := Nat.pow_le_pow_right (by decide) h8
  refine v_aload_n dX0_cheapest_0 rfl rfl ?_
  refine v_iload_n dX0_cheapest_1 rfl rfl ?_
  refine v_iload_n dX0_cheapest_2 rfl rfl ?_
  refine v_iload_n dX0_cheapest_3 rfl rfl ?_
  refine v_iload dX0_cheapest_4 rfl ?_
  refine v_pV mtX0_isTask q798 q800 qs23 rfl (by decide) dX0_cheapest_6 (c_X0_isTask hX hS (sv_laid hv).2 (sv_laid hv).1 _ _ _ _) hX.1 (by first | decide | omega) ?_
  refine v_if_eq (tgt := 23) dX0_cheapest_9 (by decide) (fun b9 => ?_) (fun b9 => ?_)
  · skip
    simp only [b2i_0, b2i_n0, b2c_0, b2c_n0, Classical.not_not] at b9
    refine v_iconst (v := (-1)) dX0_cheapest_23 (by decide) ?_
    exact v_reti dX0_cheapest_24 rfl ⟨congrArg (fun z => some (Value.int z)) (by unfold an_cheapest; first | rw [cf_f (fun z => b9 z.1)] | rw [cf_f (fun z => b20 z.2)]), R9_rf⟩
  · skip
    simp only [b2i_0, b2i_n0, b2c_0, b2c_n0, Classical.not_not] at b9
    refine v_iload dX0_cheapest_12 rfl ?_
    refine v_i2l dX0_cheapest_14 ?_
    refine v_lconst (v := (0 : Int32).toInt64) dX0_cheapest_15 (by decide) ?_
    refine v_lconst (v := (1 : Int32).toInt64) dX0_cheapest_16 (by decide) ?_
    refine v_pS mtX0_in q162 q163 dX0_cheapest_17 (c_X0_in _ _ _) (by first | decide | omega) ?_
    refine v_if_ne (tgt := 25) dX0_cheapest_20 (by decide) (fun b20 => ?_) (fun b20 => ?_)
    · skip
      simp only [b2i_0, b2i_n0, b2c_0, b2c_n0, Classical.not_not] at b20
      have b9c := b9
      obtain ⟨t1, g1, a1, e1, ht1, hg1, hae, he1, rfl, rfl, rfl, rfl⟩ := tka_d hv (show tka_ A sN th g a e from b9c)
      refine v_iconst (v := (-1)) dX0_cheapest_25 (by decide) ?_
      refine v_istore dX0_cheapest_26 (by decide) ?_
      refine v_iconst (v := 0) dX0_cheapest_28 (by decide) ?_
      refine v_istore dX0_cheapest_29 (by decide) ?_
      refine v_loc2 (by repeat' (first | exact trivial | refine And.intro ?_ ?_ | exact rfl)) (v_lp2 (fun (k : Nat) (hh : AH) => 2 ^ nC - k) (fun (k : Nat) (hh : AH) => k ≤ 2 ^ nC ∧ R9_ 0 h hh) (fun (k : Nat) (hh : AH) => [(0, .ref 30), (1, .int (nI t1)), (2, .int (nI g1)), (3, .int (nI a1)), (4, .int (nI e1)), (5, .int x), (6, .int (cha_ A C nC sN N K Z M nW t1 g1 a1 e1 k).1), (7, .int (nI k))]) (fun (k : Nat) (hh : AH) => hh) ?_ 0 _ ⟨Nat.zero_le _, R9_rf⟩)
      clear hX hS hCA hCE
      intro k hh ⟨hk, hRh⟩ IH
      have hqx := XQ_R9 hq hRh hkd
      have hWSx := WS_R9 hWS hRh hkd hk0
      have hkx := R9_kd hRh hkd
      have hq9 := hqx
      obtain ⟨hX, hS, ⟨DC, cC, fC, hCA, hCE⟩, -, -⟩ := hq9
      refine v_iload dX0_cheapest_31 rfl ?_
      refine v_iconst (v := 1) dX0_cheapest_33 (by decide) ?_
      refine v_aload_n dX0_cheapest_34 rfl rfl ?_
      refine v_getR fX0_45 dX0_cheapest_35 hX.1 (xc_Rcontrols hX.2.2.2.2) ?_
      refine v_pV mtJ2_size q481 q482 q483 rfl (by decide) dX0_cheapest_38 (c_J2_size hCA) (hCA).1 (by first | decide | omega) ?_
      refine v_ishl dX0_cheapest_41 ?_
      rw [sh_1 (by omega)]
      refine v_icmp_ge (tgt := 121) dX0_cheapest_42 (by decide) (fun b42 => ?_) (fun b42 => ?_)
      · skip
        rw [nI_leI (by omega) (by omega)] at b42
        have hkn : k = 2 ^ nC := by omega
        refine v_iload dX0_cheapest_121 rfl ?_
        refine v_iconst (v := (-1)) dX0_cheapest_123 (by decide) ?_
        refine v_icmp_eq (tgt := 132) dX0_cheapest_124 (by decide) (fun b124 => ?_) (fun b124 => ?_)
        · skip
          refine v_iload dX0_cheapest_132 rfl ?_
          refine v_goto (tgt := 143) dX0_cheapest_134 (by decide) ?_
          refine v_reti dX0_cheapest_143 rfl ⟨congrArg (fun z => some (Value.int z)) ?_, hRh⟩
          unfold an_cheapest; rw [cf_t ⟨b9, b20⟩, nI_clamp (by omega), nI_clamp (by omega), nI_clamp (by omega), nI_clamp (by omega), ← hkn]
          first | (rw [cf_t b124]; exact b124) | (rw [cf_f b124, cf_t b129]) | (rw [cf_f b124, cf_f b129]; exact ec.symm)
        · skip
          refine v_iload dX0_cheapest_127 rfl ?_
          refine v_if_ne (tgt := 137) dX0_cheapest_129 (by decide) (fun b129 => ?_) (fun b129 => ?_)
          · skip
            obtain ⟨j, hj, ej, ec⟩ := (cha_i A C nC sN N K Z M nW t1 g1 a1 e1 k).resolve_left b124
            rw [ej]
            refine v_aload_n dX0_cheapest_137 rfl rfl ?_
            refine v_iload dX0_cheapest_138 rfl ?_
            refine v_pV mtX0_costOf q1536 q1538 qs54 rfl (by decide) dX0_cheapest_140 (c_X0_costOf hqx (k := j) (by omega)) hX.1 (by first | decide | omega) ?_
            refine v_reti dX0_cheapest_143 rfl ⟨congrArg (fun z => some (Value.int z)) ?_, hRh⟩
            unfold an_cheapest; rw [cf_t ⟨b9, b20⟩, nI_clamp (by omega), nI_clamp (by omega), nI_clamp (by omega), nI_clamp (by omega), ← hkn]
            first | (rw [cf_t b124]; exact b124) | (rw [cf_f b124, cf_t b129]) | (rw [cf_f b124, cf_f b129]; exact ec.symm)
          · skip
            refine v_iload dX0_cheapest_132 rfl ?_
            refine v_goto (tgt := 143) dX0_cheapest_134 (by decide) ?_
            refine v_reti dX0_cheapest_143 rfl ⟨congrArg (fun z => some (Value.int z)) ?_, hRh⟩
            unfold an_cheapest; rw [cf_t ⟨b9, b20⟩, nI_clamp (by omega), nI_clamp (by omega), nI_clamp (by omega), nI_clamp (by omega), ← hkn]
            first | (rw [cf_t b124]; exact b124) | (rw [cf_f b124, cf_t b129]) | (rw [cf_f b124, cf_f b129]; exact ec.symm)
      · skip
        rw [nI_leI (by omega) (by omega)] at b42
        have hkn : k < 2 ^ nC := by omega
        refine v_iload dX0_cheapest_45 rfl ?_
        refine v_iconst (v := (-1)) dX0_cheapest_47 (by decide) ?_
        refine v_icmp_eq (tgt := 97) dX0_cheapest_48 (by decide) (fun b48 => ?_) (fun b48 => ?_)
        · skip
          have hcb : cb_ (cha_ A C nC sN N K Z M nW t1 g1 a1 e1 k).1 (cha_ A C nC sN N K Z M nW t1 g1 a1 e1 k).2 (co_ C k nC) k := Or.inl b48
          refine v_aload_n dX0_cheapest_97 rfl rfl ?_
          refine v_iload dX0_cheapest_98 rfl ?_
          refine v_iload_n dX0_cheapest_100 rfl rfl ?_
          refine v_iload_n dX0_cheapest_101 rfl rfl ?_
          refine v_iload_n dX0_cheapest_102 rfl rfl ?_
          refine v_iload dX0_cheapest_103 rfl ?_
          refine v_zV mtX0_isClosed q1524 q1526 qs52 rfl (by decide) dX0_cheapest_105 (c_X0_isClosed hqx hWSx ht1 hg1 hae he1 (nI k)) hX.1 (by first | decide | omega) (fun r105 h105 q105 z105 => ?_)
          obtain ⟨rfl, hR105⟩ := q105
          have hRn := R9_tr hRh hR105
          refine v_if_eq (tgt := 115) dX0_cheapest_108 (by decide) (fun b108 => ?_) (fun b108 => ?_)
          · skip
            have hd := b2c_0.mp b108
            have hn9 : cha_ A C nC sN N K Z M nW t1 g1 a1 e1 (k + 1) = cha_ A C nC sN N K Z M nW t1 g1 a1 e1 k := by rw [cha_s]; exact cf_f (fun z => hd z.2)
            refine v_iinc dX0_cheapest_115 rfl (by first | with_reducible exact nI_inc _ | exact rfl) (by decide) ?_
            refine v_goto (tgt := 31) dX0_cheapest_118 (by decide) ?_
            refine v_loc2 (by repeat' (first | with_reducible exact lsub_n | with_reducible refine lsub_c ?_ ?_ | with_reducible refine lk_hit ?_ | with_reducible refine lk_miss (by decide) ?_ ?_ | (first | exact rfl | (rw [hn9]; done) | (rw [hn9]; exact rfl) | (rw [hn9]; exact congrArg (fun z => Value.int z) ej.symm) | (rw [hn9]; exact congrArg (fun z => some (Value.int z)) ej.symm)))) (IH (k + 1) _ ⟨by omega, hRn⟩ (by omega))
          · skip
            have hd := b2c_n0.mp b108
            have hn9 : cha_ A C nC sN N K Z M nW t1 g1 a1 e1 (k + 1) = (nI k, co_ C k nC) := by rw [cha_s]; exact cf_t ⟨hcb, hd⟩
            refine v_iload dX0_cheapest_111 rfl ?_
            refine v_istore dX0_cheapest_113 (by decide) ?_
            refine v_iinc dX0_cheapest_115 rfl (by first | with_reducible exact nI_inc _ | exact rfl) (by decide) ?_
            refine v_goto (tgt := 31) dX0_cheapest_118 (by decide) ?_
            refine v_loc2 (by repeat' (first | with_reducible exact lsub_n | with_reducible refine lsub_c ?_ ?_ | with_reducible refine lk_hit ?_ | with_reducible refine lk_miss (by decide) ?_ ?_ | (first | exact rfl | (rw [hn9]; done) | (rw [hn9]; exact rfl) | (rw [hn9]; exact congrArg (fun z => Value.int z) ej.symm) | (rw [hn9]; exact congrArg (fun z => some (Value.int z)) ej.symm)))) (IH (k + 1) _ ⟨by omega, hRn⟩ (by omega))
        · skip
          obtain ⟨j, hj, ej, ec⟩ := (cha_i A C nC sN N K Z M nW t1 g1 a1 e1 k).resolve_left b48
          rw [ej]
          refine v_aload_n dX0_cheapest_51 rfl rfl ?_
          refine v_iload dX0_cheapest_52 rfl ?_
          refine v_pV mtX0_costOf q1536 q1538 qs54 rfl (by decide) dX0_cheapest_54 (c_X0_costOf hqx (k := k) (by omega)) hX.1 (by first | decide | omega) ?_
          refine v_aload_n dX0_cheapest_57 rfl rfl ?_
          refine v_iload dX0_cheapest_58 rfl ?_
          refine v_pV mtX0_costOf q1536 q1538 qs54 rfl (by decide) dX0_cheapest_60 (c_X0_costOf hqx (k := j) (by omega)) hX.1 (by first | decide | omega) ?_
          refine v_icmp_gt (tgt := 115) dX0_cheapest_63 (by decide) (fun b63 => ?_) (fun b63 => ?_)
          · skip
            have hcb : ¬ cb_ (cha_ A C nC sN N K Z M nW t1 g1 a1 e1 k).1 (cha_ A C nC sN N K Z M nW t1 g1 a1 e1 k).2 (co_ C k nC) k := fun z => by
                rw [ej, ec] at z
                rcases z with y | y | y
                · exact nI_ne1 (by omega) y
                · exact Int32.lt_asymm b63 y
                · exact Int32.lt_irrefl (by rw [y.1] at b63; exact b63)
            have hn9 : cha_ A C nC sN N K Z M nW t1 g1 a1 e1 (k + 1) = cha_ A C nC sN N K Z M nW t1 g1 a1 e1 k := by rw [cha_s]; exact cf_f (fun z => hcb z.1)
            have hRn := hRh
            refine v_iinc dX0_cheapest_115 rfl (by first | with_reducible exact nI_inc _ | exact rfl) (by decide) ?_
            refine v_goto (tgt := 31) dX0_cheapest_118 (by decide) ?_
            refine v_loc2 (by repeat' (first | with_reducible exact lsub_n | with_reducible refine lsub_c ?_ ?_ | with_reducible refine lk_hit ?_ | with_reducible refine lk_miss (by decide) ?_ ?_ | (first | exact rfl | (rw [hn9]; done) | (rw [hn9]; exact rfl) | (rw [hn9]; exact congrArg (fun z => Value.int z) ej.symm) | (rw [hn9]; exact congrArg (fun z => some (Value.int z)) ej.symm)))) (IH (k + 1) _ ⟨by omega, hRn⟩ (by omega))
          · skip
            refine v_aload_n dX0_cheapest_66 rfl rfl ?_
            refine v_iload dX0_cheapest_67 rfl ?_
            refine v_pV mtX0_costOf q1536 q1538 qs54 rfl (by decide) dX0_cheapest_69 (c_X0_costOf hqx (k := k) (by omega)) hX.1 (by first | decide | omega) ?_
            refine v_aload_n dX0_cheapest_72 rfl rfl ?_
            refine v_iload dX0_cheapest_73 rfl ?_
            refine v_pV mtX0_costOf q1536 q1538 qs54 rfl (by decide) dX0_cheapest_75 (c_X0_costOf hqx (k := j) (by omega)) hX.1 (by first | decide | omega) ?_
            refine v_icmp_ne (tgt := 97) dX0_cheapest_78 (by decide) (fun b78 => ?_) (fun b78 => ?_)
            · skip
              have hcb : cb_ (cha_ A C nC sN N K Z M nW t1 g1 a1 e1 k).1 (cha_ A C nC sN N K Z M nW t1 g1 a1 e1 k).2 (co_ C k nC) k := Or.inr (Or.inl (by rw [ec]; exact Int32.lt_of_le_of_ne (Int32.not_lt.mp b63) b78))
              refine v_aload_n dX0_cheapest_97 rfl rfl ?_
              refine v_iload dX0_cheapest_98 rfl ?_
              refine v_iload_n dX0_cheapest_100 rfl rfl ?_
              refine v_iload_n dX0_cheapest_101 rfl rfl ?_
              refine v_iload_n dX0_cheapest_102 rfl rfl ?_
              refine v_iload dX0_cheapest_103 rfl ?_
              refine v_zV mtX0_isClosed q1524 q1526 qs52 rfl (by decide) dX0_cheapest_105 (c_X0_isClosed hqx hWSx ht1 hg1 hae he1 (nI k)) hX.1 (by first | decide | omega) (fun r105 h105 q105 z105 => ?_)
              obtain ⟨rfl, hR105⟩ := q105
              have hRn := R9_tr hRh hR105
              refine v_if_eq (tgt := 115) dX0_cheapest_108 (by decide) (fun b108 => ?_) (fun b108 => ?_)
              · skip
                have hd := b2c_0.mp b108
                have hn9 : cha_ A C nC sN N K Z M nW t1 g1 a1 e1 (k + 1) = cha_ A C nC sN N K Z M nW t1 g1 a1 e1 k := by rw [cha_s]; exact cf_f (fun z => hd z.2)
                refine v_iinc dX0_cheapest_115 rfl (by first | with_reducible exact nI_inc _ | exact rfl) (by decide) ?_
                refine v_goto (tgt := 31) dX0_cheapest_118 (by decide) ?_
                refine v_loc2 (by repeat' (first | with_reducible exact lsub_n | with_reducible refine lsub_c ?_ ?_ | with_reducible refine lk_hit ?_ | with_reducible refine lk_miss (by decide) ?_ ?_ | (first | exact rfl | (rw [hn9]; done) | (rw [hn9]; exact rfl) | (rw [hn9]; exact congrArg (fun z => Value.int z) ej.symm) | (rw [hn9]; exact congrArg (fun z => some (Value.int z)) ej.symm)))) (IH (k + 1) _ ⟨by omega, hRn⟩ (by omega))
              · skip
                have hd := b2c_n0.mp b108
                have hn9 : cha_ A C nC sN N K Z M nW t1 g1 a1 e1 (k + 1) = (nI k, co_ C k nC) := by rw [cha_s]; exact cf_t ⟨hcb, hd⟩
                refine v_iload dX0_cheapest_111 rfl ?_
                refine v_istore dX0_cheapest_113 (by decide) ?_
                refine v_iinc dX0_cheapest_115 rfl (by first | with_reducible exact nI_inc _ | exact rfl) (by decide) ?_
                refine v_goto (tgt := 31) dX0_cheapest_118 (by decide) ?_
                refine v_loc2 (by repeat' (first | with_reducible exact lsub_n | with_reducible refine lsub_c ?_ ?_ | with_reducible refine lk_hit ?_ | with_reducible refine lk_miss (by decide) ?_ ?_ | (first | exact rfl | (rw [hn9]; done) | (rw [hn9]; exact rfl) | (rw [hn9]; exact congrArg (fun z => Value.int z) ej.symm) | (rw [hn9]; exact congrArg (fun z => some (Value.int z)) ej.symm)))) (IH (k + 1) _ ⟨by omega, hRn⟩ (by omega))
            · skip
              refine v_iload dX0_cheapest_81 rfl ?_
              refine v_pS mtJ11_bitCount q1387 q1388 dX0_cheapest_83 (c_J11_bitCount (n := k) (by omega)) (by first | decide | omega) ?_
              refine v_iload dX0_cheapest_86 rfl ?_
              have hon1 := on_le k
              have hon2 := on_le j
              refine v_pS mtJ11_bitCount q1387 q1388 dX0_cheapest_88 (c_J11_bitCount (n := j) (by omega)) (by first | decide | omega) ?_
              refine v_icmp_lt (tgt := 97) dX0_cheapest_91 (by decide) (fun b91 => ?_) (fun b91 => ?_)
              · skip
                rw [nI_ltI (by omega) (by omega)] at b91
                have hcb : cb_ (cha_ A C nC sN N K Z M nW t1 g1 a1 e1 k).1 (cha_ A C nC sN N K Z M nW t1 g1 a1 e1 k).2 (co_ C k nC) k := Or.inr (Or.inr ⟨by rw [ec]; exact b78, by rw [ej, nI_clamp (by omega)]; exact b91⟩)
                refine v_aload_n dX0_cheapest_97 rfl rfl ?_
                refine v_iload dX0_cheapest_98 rfl ?_
                refine v_iload_n dX0_cheapest_100 rfl rfl ?_
                refine v_iload_n dX0_cheapest_101 rfl rfl ?_
                refine v_iload_n dX0_cheapest_102 rfl rfl ?_
                refine v_iload dX0_cheapest_103 rfl ?_
                refine v_zV mtX0_isClosed q1524 q1526 qs52 rfl (by decide) dX0_cheapest_105 (c_X0_isClosed hqx hWSx ht1 hg1 hae he1 (nI k)) hX.1 (by first | decide | omega) (fun r105 h105 q105 z105 => ?_)
                obtain ⟨rfl, hR105⟩ := q105
                have hRn := R9_tr hRh hR105
                refine v_if_eq (tgt := 115) dX0_cheapest_108 (by decide) (fun b108 => ?_) (fun b108 => ?_)
                · skip
                  have hd := b2c_0.mp b108
                  have hn9 : cha_ A C nC sN N K Z M nW t1 g1 a1 e1 (k + 1) = cha_ A C nC sN N K Z M nW t1 g1 a1 e1 k := by rw [cha_s]; exact cf_f (fun z => hd z.2)
                  refine v_iinc dX0_cheapest_115 rfl (by first | with_reducible exact nI_inc _ | exact rfl) (by decide) ?_
                  refine v_goto (tgt := 31) dX0_cheapest_118 (by decide) ?_
                  refine v_loc2 (by repeat' (first | with_reducible exact lsub_n | with_reducible refine lsub_c ?_ ?_ | with_reducible refine lk_hit ?_ | with_reducible refine lk_miss (by decide) ?_ ?_ | (first | exact rfl | (rw [hn9]; done) | (rw [hn9]; exact rfl) | (rw [hn9]; exact congrArg (fun z => Value.int z) ej.symm) | (rw [hn9]; exact congrArg (fun z => some (Value.int z)) ej.symm)))) (IH (k + 1) _ ⟨by omega, hRn⟩ (by omega))
                · skip
                  have hd := b2c_n0.mp b108
                  have hn9 : cha_ A C nC sN N K Z M nW t1 g1 a1 e1 (k + 1) = (nI k, co_ C k nC) := by rw [cha_s]; exact cf_t ⟨hcb, hd⟩
                  refine v_iload dX0_cheapest_111 rfl ?_
                  refine v_istore dX0_cheapest_113 (by decide) ?_
                  refine v_iinc dX0_cheapest_115 rfl (by first | with_reducible exact nI_inc _ | exact rfl) (by decide) ?_
                  refine v_goto (tgt := 31) dX0_cheapest_118 (by decide) ?_
                  refine v_loc2 (by repeat' (first | with_reducible exact lsub_n | with_reducible refine lsub_c ?_ ?_ | with_reducible refine lk_hit ?_ | with_reducible refine lk_miss (by decide) ?_ ?_ | (first | exact rfl | (rw [hn9]; done) | (rw [hn9]; exact rfl) | (rw [hn9]; exact congrArg (fun z => Value.int z) ej.symm) | (rw [hn9]; exact congrArg (fun z => some (Value.int z)) ej.symm)))) (IH (k + 1) _ ⟨by omega, hRn⟩ (by omega))
              · skip
                rw [nI_ltI (by omega) (by omega)] at b91
                have hcb : ¬ cb_ (cha_ A C nC sN N K Z M nW t1 g1 a1 e1 k).1 (cha_ A C nC sN N K Z M nW t1 g1 a1 e1 k).2 (co_ C k nC) k := fun z => by
                    rw [ej, ec] at z
                    rcases z with y | y | y
                    · exact nI_ne1 (by omega) y
                    · exact Int32.lt_irrefl (by rw [b78] at y; exact y)
                    · rw [nI_clamp (by omega)] at y; exact b91 y.2
                have hn9 : cha_ A C nC sN N K Z M nW t1 g1 a1 e1 (k + 1) = cha_ A C nC sN N K Z M nW t1 g1 a1 e1 k := by rw [cha_s]; exact cf_f (fun z => hcb z.1)
                have hRn := hRh
                refine v_goto (tgt := 115) dX0_cheapest_94 (by decide) ?_
                refine v_iinc dX0_cheapest_115 rfl (by first | with_reducible exact nI_inc _ | exact rfl) (by decide) ?_
                refine v_goto (tgt := 31) dX0_cheapest_118 (by decide) ?_
                refine v_loc2 (by repeat' (first | with_reducible exact lsub_n | with_reducible refine lsub_c ?_ ?_ | with_reducible refine lk_hit ?_ | with_reducible refine lk_miss (by decide) ?_ ?_ | (first | exact rfl | (rw [hn9]; done) | (rw [hn9]; exact rfl) | (rw [hn9]; exact congrArg (fun z => Value.int z) ej.symm) | (rw [hn9]; exact congrArg (fun z => some (Value.int z)) ej.symm)))) (IH (k + 1) _ ⟨by omega, hRn⟩ (by omega))
    · skip
      simp only [b2i_0, b2i_n0, b2c_0, b2c_n0, Classical.not_not] at b20
      refine v_iconst (v := (-1)) dX0_cheapest_23 (by decide) ?_
      exact v_reti dX0_cheapest_24 rfl ⟨congrArg (fun z => some (Value.int z)) (by unfold an_cheapest; first | rw [cf_f (fun z => b9 z.1)] | rw [cf_f (fun z => b20 z.2)]), R9_rf⟩

set_option maxHeartbeats 1000000 in
theorem c_X0_opens {G : Gv} {h : AH} {b nC sN : Nat} {A : Nat → Int32} {C : Nat → Nat → Int32} (hq : XQ_ h b A C nC sN 0) {N K Z M : Nat → Int32} {nW : Nat} (hWS : WS_ h N K Z M nW) (c th g a e : Int32) : Ctr G 18 yX0_opens cX0_opens 9 (some .int) [.ref 30, .int c, .int th, .int g, .int a, .int e] h 0 0 (fun r h1 => r = some (.int (an_opens A C nC sN N K Z M nW c th g a e)) ∧ R9_ 0 h h1) := by
  refine ctr_of (own := RX0) (nm := "opens") (by decide) (Nat.le_of_ble_eq_true rfl) ?_
  refine v_kd fun hkd => ?_
  have hq9 := hq
  obtain ⟨hX, hS, ⟨DC, cC, fC, hCA, hCE⟩, hv, hc⟩ := hq9
  have h39 := sv_s hv
  have hWS9 := hWS
  obtain ⟨hW8, hWN, LW, DW, cW, fW, hWR, hWA, hWE9⟩ := hWS9
  have h8 := hc.1
  have hlaid := sv_laid hv
  have hk0 := xc_run hX.2.2.2.2
  refine v_iload_n dX0_opens_0 rfl rfl ?_
  refine v_i2l dX0_opens_1 ?_
  refine v_lconst (v := (0 : Int32).toInt64) dX0_opens_2 (by decide) ?_
  refine v_aload_n dX0_opens_3 rfl rfl ?_
  refine v_getR fX0_45 dX0_opens_4 hX.1 (xc_Rcontrols hX.2.2.2.2) ?_
  refine v_pV mtJ2_size q481 q482 q483 rfl (by decide) dX0_opens_7 (c_J2_size hCA) (hCA).1 (by first | decide | omega) ?_
  refine v_iconst (v := 1) dX0_opens_10 (by decide) ?_
  refine v_isub dX0_opens_11 ?_
  refine v_i2l dX0_opens_12 ?_
  refine v_pS mtX0_in q162 q163 dX0_opens_13 (c_X0_in _ _ _) (by first | decide | omega) ?_
  refine v_if_eq (tgt := 32) dX0_opens_16 (by decide) (fun b16 => ?_) (fun b16 => ?_)
  · skip
    rw [b2i_0] at b16
    have b16 := fun z => b16 ((in_pred (by omega)).mpr z)
    refine v_iconst (v := (-1)) dX0_opens_32 (by decide) ?_
    exact v_reti dX0_opens_33 rfl ⟨congrArg (fun z => some (Value.int z)) (by unfold an_opens; first | rw [cf_f (fun z => b16 z.1)] | rw [cf_f (fun z => b29 z.2)]), R9_rf⟩
  · skip
    rw [b2i_n0] at b16
    have b16 := (in_pred (by omega)).mp b16
    refine v_aload_n dX0_opens_19 rfl rfl ?_
    refine v_iload_n dX0_opens_20 rfl rfl ?_
    refine v_iload_n dX0_opens_21 rfl rfl ?_
    refine v_iload dX0_opens_22 rfl ?_
    refine v_iload dX0_opens_24 rfl ?_
    refine v_pV mtX0_isTask q798 q800 qs23 rfl (by decide) dX0_opens_26 (c_X0_isTask hX hS (sv_laid hv).2 (sv_laid hv).1 _ _ _ _) hX.1 (by first | decide | omega) ?_
    refine v_if_ne (tgt := 34) dX0_opens_29 (by decide) (fun b29 => ?_) (fun b29 => ?_)
    · skip
      simp only [b2i_0, b2i_n0, b2c_0, b2c_n0, Classical.not_not] at b29
      have b29c := b29
      obtain ⟨t1, g1, a1, e1, ht1, hg1, hae, he1, rfl, rfl, rfl, rfl⟩ := tka_d hv (show tka_ A sN th g a e from b29c)
      have b16c := b16
      obtain ⟨c1, hc1, rfl⟩ := nI_rng b16c (by omega)
      refine v_iconst (v := 0) dX0_opens_34 (by decide) ?_
      refine v_istore dX0_opens_35 (by decide) ?_
      refine v_iconst (v := 0) dX0_opens_37 (by decide) ?_
      refine v_istore dX0_opens_38 (by decide) ?_
      refine v_loc2 (by repeat' (first | exact trivial | refine And.intro ?_ ?_ | exact rfl)) (v_lp2 (fun (w : Nat) (hh : AH) => nW - w) (fun (w : Nat) (hh : AH) => w ≤ nW ∧ R9_ 0 h hh) (fun (w : Nat) (hh : AH) => [(0, .ref 30), (1, .int (nI c1)), (2, .int (nI t1)), (3, .int (nI g1)), (4, .int (nI a1)), (5, .int (nI e1)), (6, .int (nI (tc_ (fun w p => opa_ A C nC sN N K Z M c1 t1 g1 a1 e1 w p) sN w))), (7, .int (nI w))]) (fun (w : Nat) (hh : AH) => hh) ?_ 0 _ ⟨Nat.zero_le _, R9_rf⟩)
      clear hX hS hCA hCE hWR hWA hWE9
      intro w hh ⟨hI1, hRh⟩ IH
      have hqx := XQ_R9 hq hRh hkd
      have hWSx := WS_R9 hWS hRh hkd hk0
      have hkx := R9_kd hRh hkd
      have hq9 := hqx
      obtain ⟨hX, hS, ⟨DC, cC, fC, hCA, hCE⟩, -, -⟩ := hq9
      have hWS9 := hWSx
      obtain ⟨-, -, LW, DW, cW, fW, hWR, hWA, hWE9⟩ := hWS9
      refine v_iload dX0_opens_40 rfl ?_
      refine v_aload_n dX0_opens_42 rfl rfl ?_
      refine v_getR fX0_49 dX0_opens_43 hX.1 hWR ?_
      refine v_pV mtJ2_size q481 q482 q483 rfl (by decide) dX0_opens_46 (c_J2_size hWA) (hWA).1 (by first | decide | omega) ?_
      refine v_icmp_ge (tgt := 144) dX0_opens_49 (by decide) (fun b49 => ?_) (fun b49 => ?_)
      · skip
        rw [nI_leI (by omega) (by omega)] at b49
        obtain rfl : w = nW := by omega
        refine v_iload dX0_opens_144 rfl ?_
        refine v_reti dX0_opens_146 rfl ⟨congrArg (fun z => some (Value.int z)) ?_, hRh⟩
        unfold an_opens; rw [cf_t ⟨b16, b29⟩, nI_clamp (by omega), nI_clamp (by omega), nI_clamp (by omega), nI_clamp (by omega), nI_clamp (by omega)]
      · skip
        rw [nI_leI (by omega) (by omega)] at b49
        have hkw : w < nW := by omega
        refine v_iconst (v := 0) dX0_opens_52 (by decide) ?_
        refine v_istore dX0_opens_53 (by decide) ?_
        refine v_loc2 (by repeat' (first | exact trivial | refine And.intro ?_ ?_ | exact rfl)) (v_lp2 (fun (p : Nat) (hi : AH) => sN - p) (fun (p : Nat) (hi : AH) => p ≤ sN ∧ R9_ 0 h hi) (fun (p : Nat) (hi : AH) => [(0, .ref 30), (1, .int (nI c1)), (2, .int (nI t1)), (3, .int (nI g1)), (4, .int (nI a1)), (5, .int (nI e1)), (6, .int (nI (tc_ (fun w p => opa_ A C nC sN N K Z M c1 t1 g1 a1 e1 w p) sN w + gc_ (fun p => opa_ A C nC sN N K Z M c1 t1 g1 a1 e1 w p) p))), (7, .int (nI w)), (8, .int (nI p))]) (fun (p : Nat) (hi : AH) => hi) ?_ 0 _ ⟨Nat.zero_le _, hRh⟩)
        clear hX hS hCA hCE hWR hWA hWE9 hqx hWSx hkx
        intro p hi ⟨hJ1, hRr⟩ IHj
        have hqx := XQ_R9 hq hRr hkd
        have hWSx := WS_R9 hWS hRr hkd hk0
        have hkx := R9_kd hRr hkd
        have hq9 := hqx
        obtain ⟨hX, hS, ⟨DC, cC, fC, hCA, hCE⟩, -, -⟩ := hq9
        have hWS9 := hWSx
        obtain ⟨-, -, LW, DW, cW, fW, hWR, hWA, hWE9⟩ := hWS9
        refine v_iload dX0_opens_55 rfl ?_
        refine v_aload_n dX0_opens_57 rfl rfl ?_
        refine v_getI fX0_25 dX0_opens_58 hX.1 ?_
        rw [hX.2.1]
        refine v_icmp_ge (tgt := 138) dX0_opens_61 (by decide) (fun b61 => ?_) (fun b61 => ?_)
        · skip
          rw [nI_leI (by omega) (by omega)] at b61
          obtain rfl : p = sN := by omega
          refine v_iinc dX0_opens_138 rfl (by first | with_reducible exact nI_inc _ | exact rfl) (by decide) ?_
          refine v_goto (tgt := 40) dX0_opens_141 (by decide) ?_
          exact v_loc2 (by repeat' (first | exact trivial | refine And.intro ?_ ?_ | exact rfl)) (IH (w + 1) _ ⟨hkw, hRr⟩ (by omega))
        · skip
          rw [nI_leI (by omega) (by omega)] at b61
          have hkp : p < sN := by omega
          refine v_iload dX0_opens_64 rfl ?_
          refine v_aload_n dX0_opens_66 rfl rfl ?_
          refine v_iconst (v := 1) dX0_opens_67 (by decide) ?_
          refine v_iload_n dX0_opens_68 rfl rfl ?_
          refine v_ishl dX0_opens_69 ?_
          rw [sh_1 (by omega)]
          refine v_aload_n dX0_opens_70 rfl rfl ?_
          refine v_getR fX0_49 dX0_opens_71 hX.1 hWR ?_
          refine v_iload dX0_opens_74 rfl ?_
          refine v_pV mtJ2_get q621 q607 q608 rfl (by decide) dX0_opens_76 (c_J2_get hWA rfl hkw) (hWA).1 (by first | decide | omega) ?_
          refine v_castS (hWE9 _ hkw).1.1 (by decide) rfl q789 dX0_opens_79 ?_
          refine v_iload dX0_opens_82 rfl ?_
          refine v_iload_n dX0_opens_84 rfl rfl ?_
          refine v_iload_n dX0_opens_85 rfl rfl ?_
          refine v_iload dX0_opens_86 rfl ?_
          refine v_iload dX0_opens_88 rfl ?_
          refine v_zV mtX0_fitsUnder q1528 q1530 qs53 rfl (by decide) dX0_opens_90 (c_X0_fitsUnder (N := N) hqx (hWE9 _ hkw) hkp ht1 hg1 hae he1 (nI (2 ^ c1))) hX.1 (by first | decide | omega) (fun r90 h90 q90 z90 => ?_)
          obtain ⟨rfl, hR90⟩ := q90
          refine v_if_eq (tgt := 128) dX0_opens_93 (by decide) (fun b93 => ?_) (fun b93 => ?_)
          · skip
            have hz9 : b2c ((fun p => opa_ A C nC sN N K Z M c1 t1 g1 a1 e1 w p) p) = 0 := b2c_f (fun z => b2c_0.mp b93 z.2)
            have hRn := R9_tr hRr hR90
            refine v_iconst (v := 0) dX0_opens_128 (by decide) ?_
            refine v_iadd dX0_opens_129 ?_
            first | rw [show nI (tc_ (fun w p => opa_ A C nC sN N K Z M c1 t1 g1 a1 e1 w p) sN w + gc_ (fun p => opa_ A C nC sN N K Z M c1 t1 g1 a1 e1 w p) p) + 0 = nI (tc_ (fun w p => opa_ A C nC sN N K Z M c1 t1 g1 a1 e1 w p) sN w + gc_ (fun p => opa_ A C nC sN N K Z M c1 t1 g1 a1 e1 w p) (p + 1)) from by rw [← hz9, ← nI_add, Int32.add_assoc, gc_a, nI_add]] | rw [show nI (tc_ (fun w p => opa_ A C nC sN N K Z M c1 t1 g1 a1 e1 w p) sN w + gc_ (fun p => opa_ A C nC sN N K Z M c1 t1 g1 a1 e1 w p) p) + 1 = nI (tc_ (fun w p => opa_ A C nC sN N K Z M c1 t1 g1 a1 e1 w p) sN w + gc_ (fun p => opa_ A C nC sN N K Z M c1 t1 g1 a1 e1 w p) (p + 1)) from by rw [← hz9, ← nI_add, Int32.add_assoc, gc_a, nI_add]]
            refine v_istore dX0_opens_130 (by decide) ?_
            refine v_iinc dX0_opens_132 rfl (by first | with_reducible exact nI_inc _ | exact rfl) (by decide) ?_
            refine v_goto (tgt := 55) dX0_opens_135 (by decide) ?_
            exact v_loc2 (by repeat' (first | exact trivial | refine And.intro ?_ ?_ | exact rfl)) (IHj (p + 1) _ ⟨hkp, hRn⟩ (by omega))
          · skip
            have hb := b2c_n0.mp b93
            have hRr0 := hRr
            have hRr := R9_tr hRr0 hR90
            clear hX hS hCA hCE hWR hWA hWE9
            have hqx := XQ_R9 hq hRr hkd
            have hWSx := WS_R9 hWS hRr hkd hk0
            have hkx := R9_kd hRr hkd
            have hq9 := hqx
            obtain ⟨hX, hS, ⟨DC, cC, fC, hCA, hCE⟩, -, -⟩ := hq9
            have hWS9 := hWSx
            obtain ⟨-, -, LW, DW, cW, fW, hWR, hWA, hWE9⟩ := hWS9
            refine v_aload_n dX0_opens_96 rfl rfl ?_
            refine v_iconst (v := nI 0) dX0_opens_97 (by decide) ?_
            refine v_aload_n dX0_opens_98 rfl rfl ?_
            refine v_getR fX0_49 dX0_opens_99 hX.1 hWR ?_
            refine v_iload dX0_opens_102 rfl ?_
            refine v_pV mtJ2_get q621 q607 q608 rfl (by decide) dX0_opens_104 (c_J2_get hWA rfl hkw) (hWA).1 (by first | decide | omega) ?_
            refine v_castS (hWE9 _ hkw).1.1 (by decide) rfl q789 dX0_opens_107 ?_
            refine v_iload dX0_opens_110 rfl ?_
            refine v_iload_n dX0_opens_112 rfl rfl ?_
            refine v_iload_n dX0_opens_113 rfl rfl ?_
            refine v_iload dX0_opens_114 rfl ?_
            refine v_iload dX0_opens_116 rfl ?_
            refine v_zV mtX0_fitsUnder q1528 q1530 qs53 rfl (by decide) dX0_opens_118 (c_X0_fitsUnder (N := N) hqx (hWE9 _ hkw) hkp ht1 hg1 hae he1 (nI 0)) hX.1 (by first | decide | omega) (fun r118 h118 q118 z118 => ?_)
            obtain ⟨rfl, hR118⟩ := q118
            refine v_if_ne (tgt := 128) dX0_opens_121 (by decide) (fun b121 => ?_) (fun b121 => ?_)
            · skip
              have hz9 : b2c ((fun p => opa_ A C nC sN N K Z M c1 t1 g1 a1 e1 w p) p) = 0 := b2c_f (fun z => b2c_n0.mp b121 z.1)
              have hRn := R9_tr hRr hR118
              refine v_iconst (v := 0) dX0_opens_128 (by decide) ?_
              refine v_iadd dX0_opens_129 ?_
              first | rw [show nI (tc_ (fun w p => opa_ A C nC sN N K Z M c1 t1 g1 a1 e1 w p) sN w + gc_ (fun p => opa_ A C nC sN N K Z M c1 t1 g1 a1 e1 w p) p) + 0 = nI (tc_ (fun w p => opa_ A C nC sN N K Z M c1 t1 g1 a1 e1 w p) sN w + gc_ (fun p => opa_ A C nC sN N K Z M c1 t1 g1 a1 e1 w p) (p + 1)) from by rw [← hz9, ← nI_add, Int32.add_assoc, gc_a, nI_add]] | rw [show nI (tc_ (fun w p => opa_ A C nC sN N K Z M c1 t1 g1 a1 e1 w p) sN w + gc_ (fun p => opa_ A C nC sN N K Z M c1 t1 g1 a1 e1 w p) p) + 1 = nI (tc_ (fun w p => opa_ A C nC sN N K Z M c1 t1 g1 a1 e1 w p) sN w + gc_ (fun p => opa_ A C nC sN N K Z M c1 t1 g1 a1 e1 w p) (p + 1)) from by rw [← hz9, ← nI_add, Int32.add_assoc, gc_a, nI_add]]
              refine v_istore dX0_opens_130 (by decide) ?_
              refine v_iinc dX0_opens_132 rfl (by first | with_reducible exact nI_inc _ | exact rfl) (by decide) ?_
              refine v_goto (tgt := 55) dX0_opens_135 (by decide) ?_
              exact v_loc2 (by repeat' (first | exact trivial | refine And.intro ?_ ?_ | exact rfl)) (IHj (p + 1) _ ⟨hkp, hRn⟩ (by omega))
            · skip
              have hz9 : b2c ((fun p => opa_ A C nC sN N K Z M c1 t1 g1 a1 e1 w p) p) = 1 := b2c_t ⟨Classical.not_not.mp (b2c_0.mp b121), hb⟩
              have hRn := R9_tr hRr hR118
              refine v_iconst (v := 1) dX0_opens_124 (by decide) ?_
              refine v_goto (tgt := 129) dX0_opens_125 (by decide) ?_
              refine v_iadd dX0_opens_129 ?_
              first | rw [show nI (tc_ (fun w p => opa_ A C nC sN N K Z M c1 t1 g1 a1 e1 w p) sN w + gc_ (fun p => opa_ A C nC sN N K Z M c1 t1 g1 a1 e1 w p) p) + 0 = nI (tc_ (fun w p => opa_ A C nC sN N K Z M c1 t1 g1 a1 e1 w p) sN w + gc_ (fun p => opa_ A C nC sN N K Z M c1 t1 g1 a1 e1 w p) (p + 1)) from by rw [← hz9, ← nI_add, Int32.add_assoc, gc_a, nI_add]] | rw [show nI (tc_ (fun w p => opa_ A C nC sN N K Z M c1 t1 g1 a1 e1 w p) sN w + gc_ (fun p => opa_ A C nC sN N K Z M c1 t1 g1 a1 e1 w p) p) + 1 = nI (tc_ (fun w p => opa_ A C nC sN N K Z M c1 t1 g1 a1 e1 w p) sN w + gc_ (fun p => opa_ A C nC sN N K Z M c1 t1 g1 a1 e1 w p) (p + 1)) from by rw [← hz9, ← nI_add, Int32.add_assoc, gc_a, nI_add]]
              refine v_istore dX0_opens_130 (by decide) ?_
              refine v_iinc dX0_opens_132 rfl (by first | with_reducible exact nI_inc _ | exact rfl) (by decide) ?_
              refine v_goto (tgt := 55) dX0_opens_135 (by decide) ?_
              exact v_loc2 (by repeat' (first | exact trivial | refine And.intro ?_ ?_ | exact rfl)) (IHj (p + 1) _ ⟨hkp, hRn⟩ (by omega))
    · skip
      simp only [b2i_0, b2i_n0, b2c_0, b2c_n0, Classical.not_not] at b29
      refine v_iconst (v := (-1)) dX0_opens_32 (by decide) ?_
      exact v_reti dX0_opens_33 rfl ⟨congrArg (fun z => some (Value.int z)) (by unfold an_opens; first | rw [cf_f (fun z => b16 z.1)] | rw [cf_f (fun z => b29 z.2)]), R9_rf⟩

set_option maxHeartbeats 2000000 in
theorem c_X0_next {G : Gv} {h : AH} {b nC sN : Nat} {A : Nat → Int32} {C : Nat → Nat → Int32} (hq : XQ_ h b A C nC sN 0) {T : Nat → Int32} {nR : Nat} (hRP : rp_ok T nR sN) {DR cR : Nat} {fR : Nat → Nat} (hRA : AL_ h 96 DR cR nR fR) (hRE : ∀ r, r < nR → RE_ h (fR r) T r) {N K Z M : Nat → Int32} {nW : Nat} (hWS : WS_ h N K Z M nW) (hN : gn_ok G) (x cost : Int32) : Ctr G 18 yX0_next cX0_next 11 (some .int) [.ref 30, .int x, .int cost] h 0 0 (fun r9 h1 => r9 = some (.int (an_next A C nC sN N K Z M T nW nR x cost)) ∧ R9_ 0 h h1) := by
  refine ctr_of (own := RX0) (nm := "next") (by decide) (Nat.le_of_ble_eq_true rfl) ?_
  refine v_kd fun hkd => ?_
  have hq9 := hq
  obtain ⟨hX, hS, ⟨DC, cC, fC, hCA, hCE⟩, hv, hc⟩ := hq9
  have h39 := sv_s hv
  have hWS9 := hWS
  obtain ⟨hW8, hWN, LW, DW, cW, fW, hWR, hWA, hWE9⟩ := hWS9
  have h8 := hc.1
  have hk0 := xc_run hX.2.2.2.2
  have hR30 := hRP.1
  have hlaid := sv_laid hv
  by_cases hx0 : (0 ≤ x ∧ x < nI nR) ∧ T (7 * x.toNatClampNeg + 1) = 0
  · skip
    have hx0c := hx0
    obtain ⟨rn, hrn, rfl⟩ := nI_rng hx0c.1 (by omega)
    have h0 := hx0.2
    rw [nI_clamp (by omega)] at h0
    have hE0 := (hRE rn hrn).resolve_right (fun z => absurd (h0.symm.trans z.2.2.2.2) (by decide))
    have hE := hE0
    obtain ⟨⟨pn, hpn, e0⟩, ek, ⟨an, bn, hab, hbn, e4, e5⟩, ⟨dn, hdn, e6⟩⟩ := hRP.2 rn hrn
    obtain ⟨-, ⟨tn, htn, e2⟩, ⟨xn, hxn, e3⟩⟩ := ek.resolve_right (fun z => by rw [h0] at z; exact absurd z.1 (by decide))
    have eT : (T (7 * rn + 2)).toNatClampNeg = tn ∧ (T (7 * rn + 3)).toNatClampNeg = xn ∧ (T (7 * rn + 4)).toNatClampNeg = an ∧ (T (7 * rn + 5)).toNatClampNeg = bn := ⟨by rw [e2, nI_clamp (by omega)], by rw [e3, nI_clamp (by omega)], by rw [e4, nI_clamp (by omega)], by rw [e5, nI_clamp (by omega)]⟩
    refine v_aload_n dX0_next_0 rfl rfl ?_
    refine v_iload_n dX0_next_1 rfl rfl ?_
    refine v_pV mtX0_came q1372 q1374 qs45 rfl (by decide) dX0_next_2 (c_X0_camet hq hRP hRA hRE hrn h0) hX.1 (by first | decide | omega) ?_
    refine v_astore_n dX0_next_5 rfl (by decide) ?_
    refine v_aload_n dX0_next_6 rfl rfl ?_
    refine v_ifnonnull (tgt := 12) dX0_next_7 (by decide) ?_
    refine v_iconst (v := (-1)) dX0_next_12 (by decide) ?_
    refine v_istore dX0_next_13 (by decide) ?_
    refine v_iconst (v := (-1)) dX0_next_15 (by decide) ?_
    refine v_istore dX0_next_16 (by decide) ?_
    refine v_iconst (v := 0) dX0_next_18 (by decide) ?_
    refine v_istore dX0_next_19 (by decide) ?_
    refine v_loc2 (by repeat' (first | exact trivial | refine And.intro ?_ ?_ | exact rfl)) (v_lp2 (fun (k : Nat) (hh : AH) => nC - k) (fun (k : Nat) (hh : AH) => k ≤ nC ∧ R9_ 0 h hh) (fun (k : Nat) (hh : AH) => [(0, .ref 30), (1, .int (nI rn)), (2, .int cost), (3, .ref (fR rn)), (4, .int (nxa_ A C nC sN N K Z M T nW rn cost k).1), (5, .int (nxa_ A C nC sN N K Z M T nW rn cost k).2), (6, .int (nI k))]) (fun (k : Nat) (hh : AH) => hh) ?_ 0 _ ⟨Nat.zero_le _, R9_rf⟩)
    clear hX hS hCA hCE hWR hWA hWE9 hE
    intro k hh ⟨hI1, hRh⟩ IH
    have hqx := XQ_R9 hq hRh hkd
    have hWSx := WS_R9 hWS hRh hkd hk0
    have hkx := R9_kd hRh hkd
    have hq9 := hqx
    obtain ⟨hX, hS, ⟨DC, cC, fC, hCA, hCE⟩, -, -⟩ := hq9
    have hWS9 := hWSx
    obtain ⟨-, -, LW, DW, cW, fW, hWR, hWA, hWE9⟩ := hWS9
    have hE := CA_J hE0 (R9_FR hRh) hkd (NJ_94 hk0)
    refine v_iload dX0_next_21 rfl ?_
    refine v_aload_n dX0_next_23 rfl rfl ?_
    refine v_getR fX0_45 dX0_next_24 hX.1 (xc_Rcontrols hX.2.2.2.2) ?_
    refine v_pV mtJ2_size q481 q482 q483 rfl (by decide) dX0_next_27 (c_J2_size hCA) (hCA).1 (by first | decide | omega) ?_
    refine v_icmp_ge (tgt := 209) dX0_next_30 (by decide) (fun b30 => ?_) (fun b30 => ?_)
    · skip
      rw [nI_leI (by omega) (by omega)] at b30
      obtain rfl : k = nC := by omega
      refine v_iload dX0_next_209 rfl ?_
      exact v_reti dX0_next_211 rfl ⟨congrArg (fun z => some (Value.int z)) (by unfold an_next; rw [cf_t hx0, nI_clamp (by omega)]), hRh⟩
    · skip
      rw [nI_leI (by omega) (by omega)] at b30
      have hkc : k < nC := by omega
      refine v_aload_n dX0_next_33 rfl rfl ?_
      refine v_getR fX0_45 dX0_next_34 hX.1 (xc_Rcontrols hX.2.2.2.2) ?_
      refine v_iload dX0_next_37 rfl ?_
      refine v_pV mtJ2_get q621 q607 q608 rfl (by decide) dX0_next_39 (c_J2_get hCA rfl hkc) (hCA).1 (by first | decide | omega) ?_
      refine v_castU (cl_KO (hCE _ hkc)) q639 dX0_next_42 ?_
      refine v_getK (hCE _ hkc) fX0_464_X22 fX0_464_X23 fX0_464_X24 dX0_next_45 ?_
      rw [(hCE _ hkc).1.2.2]
      refine v_iload_n dX0_next_48 rfl rfl ?_
      refine v_icmp_le (tgt := 55) dX0_next_49 (by decide) (fun b49 => ?_) (fun b49 => ?_)
      · skip
        refine v_iconst (v := 0) dX0_next_55 (by decide) ?_
        refine v_istore dX0_next_56 (by decide) ?_
        refine v_iconst (v := 0) dX0_next_58 (by decide) ?_
        refine v_istore dX0_next_59 (by decide) ?_
        refine v_iconst (v := 0) dX0_next_61 (by decide) ?_
        refine v_istore dX0_next_62 (by decide) ?_
        refine v_loc2 (by repeat' (first | exact trivial | refine And.intro ?_ ?_ | exact rfl)) (v_lp2 (fun (w : Nat) (hj : AH) => nW - w) (fun (w : Nat) (hj : AH) => w ≤ nW ∧ R9_ 0 h hj) (fun (w : Nat) (hj : AH) => [(0, .ref 30), (1, .int (nI rn)), (2, .int cost), (3, .ref (fR rn)), (4, .int (nxa_ A C nC sN N K Z M T nW rn cost k).1), (5, .int (nxa_ A C nC sN N K Z M T nW rn cost k).2), (6, .int (nI k)), (7, .int (nI (tc_ (nya_ A C nC sN N K Z M T rn k) sN w))), (8, .int (nI (tc_ (nza_ A C nC sN N K Z M T rn k) sN w))), (9, .int (nI w))]) (fun (w : Nat) (hj : AH) => hj) ?_ 0 _ ⟨Nat.zero_le _, hRh⟩)
        clear hX hS hCA hCE hWR hWA hWE9 hE hqx hWSx hkx
        intro w hj ⟨hI2, hRw⟩ IHw
        have hqx := XQ_R9 hq hRw hkd
        have hWSx := WS_R9 hWS hRw hkd hk0
        have hkx := R9_kd hRw hkd
        have hq9 := hqx
        obtain ⟨hX, hS, ⟨DC, cC, fC, hCA, hCE⟩, -, -⟩ := hq9
        have hWS9 := hWSx
        obtain ⟨-, -, LW, DW, cW, fW, hWR, hWA, hWE9⟩ := hWS9
        have hE := CA_J hE0 (R9_FR hRw) hkd (NJ_94 hk0)
        refine v_iload dX0_next_64 rfl ?_
        refine v_aload_n dX0_next_66 rfl rfl ?_
        refine v_getR fX0_49 dX0_next_67 hX.1 hWR ?_
        refine v_pV mtJ2_size q481 q482 q483 rfl (by decide) dX0_next_70 (c_J2_size hWA) (hWA).1 (by first | decide | omega) ?_
        refine v_icmp_ge (tgt := 175) dX0_next_73 (by decide) (fun b73 => ?_) (fun b73 => ?_)
        · skip
          rw [nI_leI (by omega) (by omega)] at b73
          obtain rfl : w = nW := by omega
          have ht1 := tc_le (nya_ A C nC sN N K Z M T rn k) sN w
          have ht2 := tc_le (nza_ A C nC sN N K Z M T rn k) sN w
          have ht3 : sN * w ≤ 9 * 8 := Nat.mul_le_mul h39.2 hW8
          have hmn : (if nI (tc_ (nza_ A C nC sN N K Z M T rn k) sN w) < nI (tc_ (nya_ A C nC sN N K Z M T rn k) sN w) then nI (tc_ (nza_ A C nC sN N K Z M T rn k) sN w) else nI (tc_ (nya_ A C nC sN N K Z M T rn k) sN w)) = nI (nma_ A C nC sN N K Z M T w rn k) := by
              unfold nma_
              by_cases z : tc_ (nza_ A C nC sN N K Z M T rn k) sN w < tc_ (nya_ A C nC sN N K Z M T rn k) sN w
              · rw [if_pos ((nI_ltI (by omega) (by omega)).mpr z), Nat.min_eq_right (by omega)]
              · rw [if_neg (fun y => z ((nI_ltI (by omega) (by omega)).mp y)), Nat.min_eq_left (by omega)]
          refine v_iload dX0_next_175 rfl ?_
          refine v_iload dX0_next_177 rfl ?_
          refine v_mmin q1548 (by first | decide | omega) dX0_next_179 ?_
          rw [hmn]
          refine v_iload dX0_next_182 rfl ?_
          refine v_icmp_gt (tgt := 190) dX0_next_184 (by decide) (fun b184 => ?_) (fun b184 => ?_)
          · skip
            have hn9 : nxa_ A C nC sN N K Z M T w rn cost (k + 1) = (nI k, nI (nma_ A C nC sN N K Z M T w rn k)) := by rw [nxa_s]; exact cf_t ⟨b49, b184⟩
            have hRn := hRw
            refine v_iload dX0_next_190 rfl ?_
            refine v_iload dX0_next_192 rfl ?_
            refine v_mmin q1548 (by first | decide | omega) dX0_next_194 ?_
            rw [hmn]
            refine v_istore dX0_next_197 (by decide) ?_
            refine v_iload dX0_next_199 rfl ?_
            refine v_istore dX0_next_201 (by decide) ?_
            refine v_iinc dX0_next_203 rfl (by first | with_reducible exact nI_inc _ | exact rfl) (by decide) ?_
            refine v_goto (tgt := 21) dX0_next_206 (by decide) ?_
            refine v_loc2 (by repeat' (first | with_reducible exact lsub_n | with_reducible refine lsub_c ?_ ?_ | with_reducible refine lk_hit ?_ | with_reducible refine lk_miss (by decide) ?_ ?_ | (first | exact rfl | (rw [hn9]; done) | (rw [hn9]; exact rfl)))) (IH (k + 1) _ ⟨hkc, hRn⟩ (by omega))
          · skip
            have hn9 : nxa_ A C nC sN N K Z M T w rn cost (k + 1) = nxa_ A C nC sN N K Z M T w rn cost k := by rw [nxa_s]; exact cf_f (fun z => b184 z.2)
            have hRn := hRw
            refine v_goto (tgt := 203) dX0_next_187 (by decide) ?_
            refine v_iinc dX0_next_203 rfl (by first | with_reducible exact nI_inc _ | exact rfl) (by decide) ?_
            refine v_goto (tgt := 21) dX0_next_206 (by decide) ?_
            refine v_loc2 (by repeat' (first | with_reducible exact lsub_n | with_reducible refine lsub_c ?_ ?_ | with_reducible refine lk_hit ?_ | with_reducible refine lk_miss (by decide) ?_ ?_ | (first | exact rfl | (rw [hn9]; done) | (rw [hn9]; exact rfl)))) (IH (k + 1) _ ⟨hkc, hRn⟩ (by omega))
        · skip
          rw [nI_leI (by omega) (by omega)] at b73
          have hkw : w < nW := by omega
          refine v_iconst (v := 0) dX0_next_76 (by decide) ?_
          refine v_istore dX0_next_77 (by decide) ?_
          refine v_loc2 (by repeat' (first | exact trivial | refine And.intro ?_ ?_ | exact rfl)) (v_lp2 (fun (p : Nat) (hi : AH) => sN - p) (fun (p : Nat) (hi : AH) => p ≤ sN ∧ R9_ 0 h hi) (fun (p : Nat) (hi : AH) => [(0, .ref 30), (1, .int (nI rn)), (2, .int cost), (3, .ref (fR rn)), (4, .int (nxa_ A C nC sN N K Z M T nW rn cost k).1), (5, .int (nxa_ A C nC sN N K Z M T nW rn cost k).2), (6, .int (nI k)), (7, .int (nI (tc_ (nya_ A C nC sN N K Z M T rn k) sN w + gc_ (nya_ A C nC sN N K Z M T rn k w) p))), (8, .int (nI (tc_ (nza_ A C nC sN N K Z M T rn k) sN w + gc_ (nza_ A C nC sN N K Z M T rn k w) p))), (9, .int (nI w)), (10, .int (nI p))]) (fun (p : Nat) (hi : AH) => hi) ?_ 0 _ ⟨Nat.zero_le _, hRw⟩)
          clear hX hS hCA hCE hWR hWA hWE9 hE hqx hWSx hkx
          intro p hi ⟨hJ1, hRr⟩ IHj
          have hqx := XQ_R9 hq hRr hkd
          have hWSx := WS_R9 hWS hRr hkd hk0
          have hkx := R9_kd hRr hkd
          have hq9 := hqx
          obtain ⟨hX, hS, ⟨DC, cC, fC, hCA, hCE⟩, -, -⟩ := hq9
          have hWS9 := hWSx
          obtain ⟨-, -, LW, DW, cW, fW, hWR, hWA, hWE9⟩ := hWS9
          have hE := CA_J hE0 (R9_FR hRr) hkd (NJ_94 hk0)
          refine v_iload dX0_next_79 rfl ?_
          refine v_aload_n dX0_next_81 rfl rfl ?_
          refine v_getI fX0_25 dX0_next_82 hX.1 ?_
          rw [hX.2.1]
          refine v_icmp_ge (tgt := 169) dX0_next_85 (by decide) (fun b85 => ?_) (fun b85 => ?_)
          · skip
            rw [nI_leI (by omega) (by omega)] at b85
            obtain rfl : p = sN := by omega
            refine v_iinc dX0_next_169 rfl (by first | with_reducible exact nI_inc _ | exact rfl) (by decide) ?_
            refine v_goto (tgt := 64) dX0_next_172 (by decide) ?_
            exact v_loc2 (by repeat' (first | exact trivial | refine And.intro ?_ ?_ | exact rfl)) (IHw (w + 1) _ ⟨hkw, hRr⟩ (by omega))
          · skip
            rw [nI_leI (by omega) (by omega)] at b85
            have hkp : p < sN := by omega
            refine v_aload_n dX0_next_88 rfl rfl ?_
            refine v_aload_n dX0_next_89 rfl rfl ?_
            refine v_getR fX0_49 dX0_next_90 hX.1 hWR ?_
            refine v_iload dX0_next_93 rfl ?_
            refine v_pV mtJ2_get q621 q607 q608 rfl (by decide) dX0_next_95 (c_J2_get hWA rfl hkw) (hWA).1 (by first | decide | omega) ?_
            refine v_castS (hWE9 _ hkw).1.1 (by decide) rfl q789 dX0_next_98 ?_
            refine v_iload dX0_next_101 rfl ?_
            refine v_iconst (v := nI 0) dX0_next_103 (by decide) ?_
            refine v_zV mtX19_isStory q1376 q1377 q1378 rfl (by decide) dX0_next_104 (c_X19_isStory (N := N) hqx (hWE9 _ hkw) hRP hrn hE hkp (nI 0)) hE.1 (by first | decide | omega) (fun r104 h104 q104 z104 => ?_)
            obtain ⟨rfl, hR104⟩ := q104
            refine v_if_ne (tgt := 113) dX0_next_107 (by decide) (fun b107 => ?_) (fun b107 => ?_)
            · skip
              have hb := (b2c_n0.mp b107).elim id (fun z => absurd rfl z.1)
              have hnt : tn < nLaid A := by have := hb.1; rw [eT.1] at this; exact this
              have hRr0 := hRr
              have hRr := R9_tr hRr0 hR104
              clear hX hS hCA hCE hWR hWA hWE9 hE
              have hqx := XQ_R9 hq hRr hkd
              have hWSx := WS_R9 hWS hRr hkd hk0
              have hkx := R9_kd hRr hkd
              have hq9 := hqx
              obtain ⟨hX, hS, ⟨DC, cC, fC, hCA, hCE⟩, -, -⟩ := hq9
              have hWS9 := hWSx
              obtain ⟨-, -, LW, DW, cW, fW, hWR, hWA, hWE9⟩ := hWS9
              have hE := CA_J hE0 (R9_FR hRr) hkd (NJ_94 hk0)
              refine v_aload_n dX0_next_113 rfl rfl ?_
              refine v_iconst (v := 1) dX0_next_114 (by decide) ?_
              refine v_iload dX0_next_115 rfl ?_
              refine v_ishl dX0_next_117 ?_
              rw [sh_1 (by omega)]
              refine v_aload_n dX0_next_118 rfl rfl ?_
              refine v_getR fX0_49 dX0_next_119 hX.1 hWR ?_
              refine v_iload dX0_next_122 rfl ?_
              refine v_pV mtJ2_get q621 q607 q608 rfl (by decide) dX0_next_124 (c_J2_get hWA rfl hkw) (hWA).1 (by first | decide | omega) ?_
              refine v_castS (hWE9 _ hkw).1.1 (by decide) rfl q789 dX0_next_127 ?_
              refine v_iload dX0_next_130 rfl ?_
              refine v_aload_n dX0_next_132 rfl rfl ?_
              refine v_getI fX0_402 dX0_next_133 hE.1 ?_
              rw [hE.2.2.1, e2]
              refine v_aload_n dX0_next_136 rfl rfl ?_
              refine v_getI fX0_413 dX0_next_137 hE.1 ?_
              rw [hE.2.2.2.1, e3]
              refine v_aload_n dX0_next_140 rfl rfl ?_
              refine v_getI fX0_407 dX0_next_141 hE.1 ?_
              rw [hE.2.1.2.1, e4]
              refine v_aload_n dX0_next_144 rfl rfl ?_
              refine v_getI fX0_410 dX0_next_145 hE.1 ?_
              rw [hE.2.1.2.2.1, e5]
              refine v_zV mtX0_fitsUnder q1528 q1530 qs53 rfl (by decide) dX0_next_148 (c_X0_fitsUnder (N := N) hqx (hWE9 _ hkw) hkp hnt (show xn ≤ sN by omega) hab hbn (nI (2 ^ k))) hX.1 (by first | decide | omega) (fun r148 h148 q148 z148 => ?_)
              obtain ⟨rfl, hR148⟩ := q148
              refine v_if_eq (tgt := 160) dX0_next_151 (by decide) (fun b151 => ?_) (fun b151 => ?_)
              · skip
                have hb2 : ¬ stb_ A C nC sN (nI (2 ^ k)) N K Z M T rn w p 0 := fun z => b2c_0.mp b151 (by have := z.2; rw [eT.1, eT.2.1, eT.2.2.1, eT.2.2.2] at this; exact this)
                have e1 : gc_ (nya_ A C nC sN N K Z M T rn k w) (p + 1) = gc_ (nya_ A C nC sN N K Z M T rn k w) p := cf_f (fun z => hb2 z.2)
                have e2 : gc_ (nza_ A C nC sN N K Z M T rn k w) (p + 1) = gc_ (nza_ A C nC sN N K Z M T rn k w) p + 1 := cf_t ⟨hb, hb2⟩
                have hRn := R9_tr hRr hR148
                refine v_iinc dX0_next_160 rfl (by first | with_reducible exact nI_inc _ | exact rfl) (by decide) ?_
                refine v_iinc dX0_next_163 rfl (by first | with_reducible exact nI_inc _ | exact rfl) (by decide) ?_
                refine v_goto (tgt := 79) dX0_next_166 (by decide) ?_
                refine v_loc2 (by repeat' (first | with_reducible exact lsub_n | with_reducible refine lsub_c ?_ ?_ | with_reducible refine lk_hit ?_ | with_reducible refine lk_miss (by decide) ?_ ?_ | (first | exact rfl | (rw [e1]; exact rfl) | (rw [e2]; exact rfl) | (rw [e1]; done) | (rw [e2]; done)))) (IHj (p + 1) _ ⟨hkp, hRn⟩ (by omega))
              · skip
                have hb2 : stb_ A C nC sN (nI (2 ^ k)) N K Z M T rn w p 0 := ⟨hb.1, by rw [eT.1, eT.2.1, eT.2.2.1, eT.2.2.2]; exact b2c_n0.mp b151⟩
                have e1 : gc_ (nya_ A C nC sN N K Z M T rn k w) (p + 1) = gc_ (nya_ A C nC sN N K Z M T rn k w) p + 1 := cf_t ⟨hb, hb2⟩
                have e2 : gc_ (nza_ A C nC sN N K Z M T rn k w) (p + 1) = gc_ (nza_ A C nC sN N K Z M T rn k w) p := cf_f (fun z => z.2 hb2)
                have hRn := R9_tr hRr hR148
                refine v_iinc dX0_next_154 rfl (by first | with_reducible exact nI_inc _ | exact rfl) (by decide) ?_
                refine v_goto (tgt := 163) dX0_next_157 (by decide) ?_
                refine v_iinc dX0_next_163 rfl (by first | with_reducible exact nI_inc _ | exact rfl) (by decide) ?_
                refine v_goto (tgt := 79) dX0_next_166 (by decide) ?_
                refine v_loc2 (by repeat' (first | with_reducible exact lsub_n | with_reducible refine lsub_c ?_ ?_ | with_reducible refine lk_hit ?_ | with_reducible refine lk_miss (by decide) ?_ ?_ | (first | exact rfl | (rw [e1]; exact rfl) | (rw [e2]; exact rfl) | (rw [e1]; done) | (rw [e2]; done)))) (IHj (p + 1) _ ⟨hkp, hRn⟩ (by omega))
            · skip
              have hb := b2c_0.mp b107
              have e1 : gc_ (nya_ A C nC sN N K Z M T rn k w) (p + 1) = gc_ (nya_ A C nC sN N K Z M T rn k w) p := cf_f (fun z => hb (Or.inl z.1))
              have e2 : gc_ (nza_ A C nC sN N K Z M T rn k w) (p + 1) = gc_ (nza_ A C nC sN N K Z M T rn k w) p := cf_f (fun z => hb (Or.inl z.1))
              have hRn := R9_tr hRr hR104
              refine v_goto (tgt := 163) dX0_next_110 (by decide) ?_
              refine v_iinc dX0_next_163 rfl (by first | with_reducible exact nI_inc _ | exact rfl) (by decide) ?_
              refine v_goto (tgt := 79) dX0_next_166 (by decide) ?_
              refine v_loc2 (by repeat' (first | with_reducible exact lsub_n | with_reducible refine lsub_c ?_ ?_ | with_reducible refine lk_hit ?_ | with_reducible refine lk_miss (by decide) ?_ ?_ | (first | exact rfl | (rw [e1]; exact rfl) | (rw [e2]; exact rfl) | (rw [e1]; done) | (rw [e2]; done)))) (IHj (p + 1) _ ⟨hkp, hRn⟩ (by omega))
      · skip
        have hn9 : nxa_ A C nC sN N K Z M T nW rn cost (k + 1) = nxa_ A C nC sN N K Z M T nW rn cost k := by rw [nxa_s]; exact cf_f (fun z => b49 z.1)
        have hRn := hRh
        refine v_goto (tgt := 203) dX0_next_52 (by decide) ?_
        refine v_iinc dX0_next_203 rfl (by first | with_reducible exact nI_inc _ | exact rfl) (by decide) ?_
        refine v_goto (tgt := 21) dX0_next_206 (by decide) ?_
        refine v_loc2 (by repeat' (first | with_reducible exact lsub_n | with_reducible refine lsub_c ?_ ?_ | with_reducible refine lk_hit ?_ | with_reducible refine lk_miss (by decide) ?_ ?_ | (first | exact rfl | (rw [hn9]; done) | (rw [hn9]; exact rfl)))) (IH (k + 1) _ ⟨hkc, hRn⟩ (by omega))
  · skip
    refine v_aload_n dX0_next_0 rfl rfl ?_
    refine v_iload_n dX0_next_1 rfl rfl ?_
    refine v_pV mtX0_came q1372 q1374 qs45 rfl (by decide) dX0_next_2 (c_X0_camef hq hRP hRA hRE hN hx0) hX.1 (by first | decide | omega) ?_
    refine v_astore_nN dX0_next_5 rfl (by decide) ?_
    refine v_aload_nN dX0_next_6 rfl rfl ?_
    refine v_ifnonnullN dX0_next_7 ?_
    refine v_iconst (v := (-1)) dX0_next_10 (by decide) ?_
    exact v_reti dX0_next_11 rfl ⟨congrArg (fun z => some (Value.int z)) (by unfold an_next; rw [cf_f hx0]), R9_rf⟩

set_option maxRecDepth 100000
/-- the long row alone differs -/
def LF_ (h h1 : AH) : Prop := hp_n h1 = hp_n h ∧ hp_K h1 = hp_K h ∧ hp_R h1 = hp_R h ∧ hp_I h1 = hp_I h ∧ ∀ p, p ≠ 240 → hp_L h1 p = hp_L h p
theorem LF_rf {h : AH} : LF_ h h := ⟨rfl, rfl, rfl, rfl, fun _ _ => rfl⟩
theorem LF_tr {h h1 h2 : AH} (a : LF_ h h1) (b : LF_ h1 h2) : LF_ h h2 := ⟨b.1.trans a.1, b.2.1.trans a.2.1, b.2.2.1.trans a.2.2.1, b.2.2.2.1.trans a.2.2.2.1, fun p hp => (b.2.2.2.2 p hp).trans (a.2.2.2.2 p hp)⟩
theorem LF_L {h h1 : AH} {k : Nat} {v : Int64} (a : LF_ h h1) : LF_ h (up_L h1 240 k v) := ⟨a.1, a.2.1, a.2.2.1, a.2.2.2.1, fun p hp => (funext fun j => by rw [hp_L_L, if_neg (fun z => hp z.1), a.2.2.2.2 p hp])⟩
theorem LF_kd {h h1 : AH} (x : LF_ h h1) (hk : kd_ok h) : kd_ok h1 := kd_eq hk x.1 x.2.1 x.2.2.1
/-- what a query leaves: the run's and the pass's cells, the row of longs -/
def QF_ (h h1 : AH) : Prop := hp_n h1 = hp_n h ∧ hp_K h1 = hp_K h ∧ hp_R h1 = hp_R h ∧ (∀ q, ¬ (q = 94 ∨ (98 ≤ q ∧ q ≤ 237)) → hp_I h1 q = hp_I h q) ∧ ∀ q, q ≠ 240 → hp_L h1 q = hp_L h q
theorem QF_rf {h : AH} : QF_ h h := ⟨rfl, rfl, rfl, fun _ _ => rfl, fun _ _ => rfl⟩
theorem QF_tr {h h1 h2 : AH} (a : QF_ h h1) (b : QF_ h1 h2) : QF_ h h2 := ⟨b.1.trans a.1, b.2.1.trans a.2.1, b.2.2.1.trans a.2.2.1, fun p hp => (b.2.2.2.1 p hp).trans (a.2.2.2.1 p hp), fun p hp => (b.2.2.2.2 p hp).trans (a.2.2.2.2 p hp)⟩
theorem QF_R9 {a : Nat} {h h1 : AH} (x : R9_ a h h1) : QF_ h h1 := ⟨x.1, x.2.1, x.2.2.1, fun q hq => funext fun k => x.2.2.2.2 q k (fun z => hq (Or.inl z.1)), fun q _ => by rw [x.2.2.2.1]⟩
theorem QF_LF {h h1 : AH} (x : LF_ h h1) : QF_ h h1 := ⟨x.1, x.2.1, x.2.2.1, fun q _ => by rw [x.2.2.2.1], x.2.2.2.2⟩
/-- the class's trials -/
def TX_ (h : AH) (An Hn : Nat → Int32) (nT : Nat) : Prop := hp_I h 30 18 = nI nT ∧ nT ≤ 9 ∧ ∀ t, t < nT → hp_I h 238 t = An t ∧ hp_I h 239 t = Hn t
def rwa_ (An Hn : Nat → Int32) (nT : Nat) (x : Int32) : Int64 := sr_ (rr_ An Hn nT) x.toNatClampNeg (nT + 1 - x.toNatClampNeg)
theorem TX_I {h h1 : AH} {An Hn : Nat → Int32} {nT : Nat} (a : TX_ h An Hn nT) (e1 : hp_I h1 30 18 = hp_I h 30 18) (e2 : hp_I h1 238 = hp_I h 238) (e3 : hp_I h1 239 = hp_I h 239) : TX_ h1 An Hn nT := by
  unfold TX_; rw [e1, e2, e3]; exact a
theorem mx_cl (x : Int32) : (if (0 : Int32) < x then x else 0) = nI x.toNatClampNeg := by
  by_cases z : (0 : Int32) < x
  · obtain ⟨y, hy, ey⟩ := nI_of (x := x) (fun u => Int32.lt_asymm z u)
    rw [if_pos z, ey, nI_clamp hy]
  · rw [if_neg z]
    by_cases u : 0 ≤ x
    · have e : x = 0 := by
        obtain ⟨y, hy, ey⟩ := nI_of (x := x) (Int32.not_lt.mpr u)
        rw [ey, show (0 : Int32) = nI 0 from rfl, nI_ltI (by omega) hy] at z
        rw [ey, show y = 0 by omega]; rfl
      rw [e]; rfl
    · rw [cl_neg u]; rfl
set_option maxHeartbeats 1000000 in
theorem c_X0_luck {G : Gv} {h : AH} {b sN : Nat} {S : Int32} (hX : XO_ h b sN S) {An Hn : Nat → Int32} {nT : Nat} (hT : TX_ h An Hn nT) (x : Int32) : Ctr G 2 yX0_luck cX0_luck 5 (some .long) [.ref 30, .int x] h 0 0 (fun q h1 => q = some (.long (@ite _ (x < -1) (Classical.propDecidable _) (-1 : Int32).toInt64 (rwa_ An Hn nT x))) ∧ LF_ h h1) := by
  refine ctr_of (own := RX0) (nm := "luck") (by decide) (Nat.le_of_ble_eq_true rfl) ?_
  obtain ⟨hT1, hT9, hT2⟩ := hT
  have hcl := cl_lt x
  have hX0 := hX
  refine v_iload_n dX0_luck_0 rfl rfl ?_
  refine v_iconst (v := (-1)) dX0_luck_1 (by decide) ?_
  refine v_icmp_ge (tgt := 9) dX0_luck_2 (by decide) (fun b2 => ?_) (fun b2 => ?_)
  · skip
    refine v_iconst (v := 0) dX0_luck_9 (by decide) ?_
    refine v_istore_n dX0_luck_10 rfl (by decide) ?_
    refine v_loc2 (by repeat' (first | exact trivial | refine And.intro ?_ ?_ | exact rfl)) (v_lp2 (fun (n : Nat) (hh : AH) => 10 - n) (fun (n : Nat) (hh : AH) => n ≤ 10 ∧ LF_ h hh ∧ ∀ i, i < n → hp_L hh 240 i = rr_ An Hn 0 i) (fun (n : Nat) (hh : AH) => [(0, .ref 30), (1, .int x), (2, .int (nI n))]) (fun (n : Nat) (hh : AH) => hh) ?_ 0 _ ⟨by decide, LF_rf, fun i h1 => absurd h1 (Nat.not_lt_zero _)⟩)
    clear hX
    intro n hh ⟨hI1, hI2, hI3⟩ IH
    have hX : XO_ _ b sN S := ⟨by rw [hI2.2.1]; exact hX0.1, by rw [hI2.2.2.2.1]; exact hX0.2.1, by rw [hI2.2.2.1]; exact hX0.2.2.1, by rw [hI2.2.2.2.1]; exact hX0.2.2.2.1, XC_eq hX0.2.2.2.2 hI2.2.1 hI2.2.2.1⟩
    refine v_iload_n dX0_luck_11 rfl rfl ?_
    refine v_bipush (v := nI 9) dX0_luck_12 (by decide) ?_
    refine v_icmp_gt (tgt := 38) dX0_luck_14 (by decide) (fun b14 => ?_) (fun b14 => ?_)
    · skip
      rw [nI_ltI (by omega) (by omega)] at b14
      have hk : n = 10 := by omega
      have hR0 : ∀ i, i ≤ 9 → hp_L hh 240 i = rr_ An Hn 0 i := fun i hi => by
       rw [hI3 i (by omega)]
      refine v_iconst (v := 0) dX0_luck_38 (by decide) ?_
      refine v_istore_n dX0_luck_39 rfl (by decide) ?_
      refine v_loc2 (by repeat' (first | exact trivial | refine And.intro ?_ ?_ | exact rfl)) (v_lp2 (fun (t : Nat) (hg : AH) => nT - t) (fun (t : Nat) (hg : AH) => t ≤ nT ∧ LF_ h hg ∧ ∀ i, i ≤ 9 → hp_L hg 240 i = rr_ An Hn t i) (fun (t : Nat) (hg : AH) => [(0, .ref 30), (1, .int x), (2, .int (nI t))]) (fun (t : Nat) (hg : AH) => hg) ?_ 0 _ ⟨Nat.zero_le _, hI2, hR0⟩)
      clear hX
      intro t hg ⟨hI1, hr, hI3⟩ IH
      have hX : XO_ _ b sN S := ⟨by rw [hr.2.1]; exact hX0.1, by rw [hr.2.2.2.1]; exact hX0.2.1, by rw [hr.2.2.1]; exact hX0.2.2.1, by rw [hr.2.2.2.1]; exact hX0.2.2.2.1, XC_eq hX0.2.2.2.2 hr.2.1 hr.2.2.1⟩
      refine v_iload_n dX0_luck_40 rfl rfl ?_
      refine v_aload_n dX0_luck_41 rfl rfl ?_
      refine v_getI fX0_105 dX0_luck_42 hX.1 ?_
      rw [hr.2.2.2.1, hT1]
      refine v_icmp_ge (tgt := 120) dX0_luck_45 (by decide) (fun b45 => ?_) (fun b45 => ?_)
      · skip
        rw [nI_leI (by omega) (by omega)] at b45
        have hk2 : nT = t := by omega
        subst hk2
        refine v_lconst (v := (0 : Int32).toInt64) dX0_luck_120 (by decide) ?_
        refine v_lstore_n dX0_luck_121 rfl (by decide) ?_
        refine v_iconst (v := nI 0) dX0_luck_122 (by decide) ?_
        refine v_iload_n dX0_luck_123 rfl rfl ?_
        refine v_mmax q727 (by first | decide | omega) dX0_luck_124 ?_
        rw [show (if nI 0 < x then x else nI 0) = _ from mx_cl x]
        refine v_istore dX0_luck_127 (by decide) ?_
        refine v_loc2 (by repeat' (first | exact trivial | refine And.intro ?_ ?_ | exact rfl)) (v_lp1 (fun (k : Nat) => nT + 1 - (x.toNatClampNeg + k)) (fun (k : Nat) => x.toNatClampNeg + k ≤ max (nT + 1) x.toNatClampNeg) (fun (k : Nat) => [(0, .ref 30), (1, .int x), (2, .long (sr_ (rr_ An Hn nT) x.toNatClampNeg k)), (4, .int (nI (x.toNatClampNeg + k)))]) (fun _ => []) (fun (k : Nat) => hg) ?_ 0 (by omega))
        intro k hK IHk
        refine v_iload dX0_luck_129 rfl ?_
        refine v_aload_n dX0_luck_131 rfl rfl ?_
        refine v_getI fX0_105 dX0_luck_132 hX.1 ?_
        rw [hr.2.2.2.1, hT1]
        refine v_icmp_gt (tgt := 154) dX0_luck_135 (by decide) (fun b135 => ?_) (fun b135 => ?_)
        · skip
          rw [nI_ltI (by omega) (by omega)] at b135
          have hk9 : nT + 1 - x.toNatClampNeg = k := by omega
          refine v_lload_n dX0_luck_154 rfl rfl ?_
          exact v_retl dX0_luck_155 rfl ⟨congrArg (fun z => some (Value.long z)) (by rw [if_neg (Int32.not_lt.mpr b2)]; unfold rwa_; rw [hk9]), hr⟩
        · skip
          rw [nI_ltI (by omega) (by omega)] at b135
          refine v_lload_n dX0_luck_138 rfl rfl ?_
          refine v_aload_n dX0_luck_139 rfl rfl ?_
          refine v_getR fX0_84 dX0_luck_140 hX.1 (xc_Rexact hX.2.2.2.2) ?_
          refine v_iload dX0_luck_143 rfl ?_
          refine v_lald dX0_luck_145 (xc_exact hX.2.2.2.2) rfl (by first | assumption | omega) ?_
          rw [hI3 _ (by omega)]
          refine v_ladd dX0_luck_146 ?_
          refine v_lstore_n dX0_luck_147 rfl (by decide) ?_
          refine v_iinc dX0_luck_148 rfl (by first | with_reducible exact nI_inc _ | exact rfl) (by decide) ?_
          refine v_goto (tgt := 129) dX0_luck_151 (by decide) ?_
          refine v_loc2 (by repeat' (first | with_reducible exact lsub_n | with_reducible refine lsub_c ?_ ?_ | with_reducible refine lk_hit ?_ | with_reducible refine lk_miss (by decide) ?_ ?_ | exact rfl)) (IHk (k + 1) (by omega) (by omega))
      · skip
        rw [nI_leI (by omega) (by omega)] at b45
        have hk2 : t < nT := by omega
        have hTt := hT2 t hk2
        refine v_iload_n dX0_luck_48 rfl rfl ?_
        refine v_iconst (v := 1) dX0_luck_49 (by decide) ?_
        refine v_iadd dX0_luck_50 ?_
        refine v_istore_n dX0_luck_51 rfl (by decide) ?_
        refine v_loc2 (by repeat' (first | with_reducible exact lsub_n | with_reducible refine lsub_c ?_ ?_ | with_reducible refine lk_hit ?_ | with_reducible refine lk_miss (by decide) ?_ ?_ | (first | exact rfl | exact congrArg (fun z => some (Value.int z)) (show nI t + 1 = nI (t + 2) - 1 from by rw [nI_pred, ← nI_1]) | exact congrArg (fun z => Value.int z) (show nI t + 1 = nI (t + 2) - 1 from by rw [nI_pred, ← nI_1])))) (v_lp2 (fun (k : Nat) (hi : AH) => k) (fun (k : Nat) (hi : AH) => k ≤ t + 2 ∧ LF_ h hi ∧ ∀ i, i ≤ 9 → hp_L hi 240 i = if k ≤ i then rr_ An Hn (t + 1) i else rr_ An Hn t i) (fun (k : Nat) (hi : AH) => [(0, .ref 30), (1, .int x), (2, .int (nI t)), (3, .int (nI k - 1))]) (fun (k : Nat) (hi : AH) => hi) ?_ (t + 2) _ ⟨Nat.le_refl _, hr, fun i hi => by rw [hI3 i hi]; by_cases z : t + 2 ≤ i; rw [if_pos z, rr_s, if_neg (by omega)]; rw [if_neg z]⟩)
        clear hX
        intro k hi ⟨hJ1, hrr, hJ⟩ IHk
        have hX : XO_ _ b sN S := ⟨by rw [hrr.2.1]; exact hX0.1, by rw [hrr.2.2.2.1]; exact hX0.2.1, by rw [hrr.2.2.1]; exact hX0.2.2.1, by rw [hrr.2.2.2.1]; exact hX0.2.2.2.1, XC_eq hX0.2.2.2.2 hrr.2.1 hrr.2.2.1⟩
        refine v_iload_n dX0_luck_52 rfl rfl ?_
        refine v_if_lt (tgt := 114) dX0_luck_53 (by decide) (fun b53 => ?_) (fun b53 => ?_)
        · skip
          have hn := dl_t b53 (by omega)
          subst hn
          refine v_iinc dX0_luck_114 rfl (by first | with_reducible exact nI_inc _ | exact rfl) (by decide) ?_
          refine v_goto (tgt := 40) dX0_luck_117 (by decide) ?_
          refine v_loc2 (by repeat' (first | with_reducible exact lsub_n | with_reducible refine lsub_c ?_ ?_ | with_reducible refine lk_hit ?_ | with_reducible refine lk_miss (by decide) ?_ ?_ | exact rfl)) (IH (t + 1) _ ⟨by omega, hrr, fun i hi => by rw [hJ i hi, if_pos (Nat.zero_le _)]⟩ (by omega))
        · skip
          obtain ⟨j, rfl⟩ := dl_f b53
          rw [nI_pred]
          refine v_aload_n dX0_luck_56 rfl rfl ?_
          refine v_getR fX0_84 dX0_luck_57 hX.1 (xc_Rexact hX.2.2.2.2) ?_
          refine v_iload_n dX0_luck_60 rfl rfl ?_
          refine v_aload_n dX0_luck_61 rfl rfl ?_
          refine v_getR fX0_84 dX0_luck_62 hX.1 (xc_Rexact hX.2.2.2.2) ?_
          refine v_iload_n dX0_luck_65 rfl rfl ?_
          refine v_lald dX0_luck_66 (xc_exact hX.2.2.2.2) rfl (by first | assumption | omega) ?_
          rw [hJ j (by omega), if_neg (show ¬ j + 1 ≤ j by omega)]
          refine v_aload_n dX0_luck_67 rfl rfl ?_
          refine v_getR fX0_78 dX0_luck_68 hX.1 (xc_Ranswers hX.2.2.2.2) ?_
          refine v_iload_n dX0_luck_71 rfl rfl ?_
          refine v_iald dX0_luck_72 (xc_answers hX.2.2.2.2) rfl (by first | assumption | omega) ?_
          rw [hrr.2.2.2.1, hTt.1]
          refine v_aload_n dX0_luck_73 rfl rfl ?_
          refine v_getR fX0_81 dX0_luck_74 hX.1 (xc_Rhits hX.2.2.2.2) ?_
          refine v_iload_n dX0_luck_77 rfl rfl ?_
          refine v_iald dX0_luck_78 (xc_hits hX.2.2.2.2) rfl (by first | assumption | omega) ?_
          rw [hrr.2.2.2.1, hTt.2]
          refine v_isub dX0_luck_79 ?_
          refine v_i2l dX0_luck_80 ?_
          refine v_lmul dX0_luck_81 ?_
          refine v_iload_n dX0_luck_82 rfl rfl ?_
          refine v_if_le (tgt := 105) dX0_luck_83 (by decide) (fun b83 => ?_) (fun b83 => ?_)
          · skip
            rw [show (0 : Int32) = nI 0 from rfl, nI_leI (by omega) (by omega)] at b83
            have hj0 : j = 0 := by omega
            have hval : rr_ An Hn (t + 1) j = rr_ An Hn t j * (An t - Hn t).toInt64 + (0 : Int32).toInt64 := by rw [rr_s, if_pos (by omega), if_neg (by omega)]
            refine v_lconst (v := (0 : Int32).toInt64) dX0_luck_105 (by decide) ?_
            refine v_ladd dX0_luck_106 ?_
            refine v_last dX0_luck_107 (xc_exact hX.2.2.2.2) rfl (by first | assumption | omega) ?_
            refine v_iinc dX0_luck_108 rfl (nI_dec1 j) (by decide) ?_
            refine v_goto (tgt := 52) dX0_luck_111 (by decide) ?_
            refine v_loc2 (by repeat' (first | with_reducible exact lsub_n | with_reducible refine lsub_c ?_ ?_ | with_reducible refine lk_hit ?_ | with_reducible refine lk_miss (by decide) ?_ ?_ | exact rfl)) (IHk j _ ⟨by omega, LF_L hrr, fun i hi9 => ?_⟩ (by omega))
            rw [hp_L_L]
            by_cases z : i = j
            · rw [if_pos ⟨rfl, z⟩, z, if_pos (Nat.le_refl _), hval]
            · rw [if_neg (fun y => z y.2), hJ i hi9]; by_cases u : j ≤ i
              · rw [if_pos (show j + 1 ≤ i by omega), if_pos u]
              · rw [if_neg (show ¬ j + 1 ≤ i by omega), if_neg u]
          · skip
            rw [show (0 : Int32) = nI 0 from rfl, nI_leI (by omega) (by omega)] at b83
            have hval : rr_ An Hn (t + 1) j = rr_ An Hn t j * (An t - Hn t).toInt64 + rr_ An Hn t (j - 1) * (Hn t).toInt64 := by rw [rr_s, if_pos (by omega), if_pos (by omega)]
            refine v_aload_n dX0_luck_86 rfl rfl ?_
            refine v_getR fX0_84 dX0_luck_87 hX.1 (xc_Rexact hX.2.2.2.2) ?_
            refine v_iload_n dX0_luck_90 rfl rfl ?_
            refine v_iconst (v := 1) dX0_luck_91 (by decide) ?_
            refine v_isub dX0_luck_92 ?_
            refine v_lald dX0_luck_93 (xc_exact hX.2.2.2.2) (ix_sub rfl (ix_lit _) (by omega)) (by first | assumption | omega) ?_
            rw [hJ (j - 1) (by omega), if_neg (show ¬ j + 1 ≤ j - 1 by omega)]
            refine v_aload_n dX0_luck_94 rfl rfl ?_
            refine v_getR fX0_81 dX0_luck_95 hX.1 (xc_Rhits hX.2.2.2.2) ?_
            refine v_iload_n dX0_luck_98 rfl rfl ?_
            refine v_iald dX0_luck_99 (xc_hits hX.2.2.2.2) rfl (by first | assumption | omega) ?_
            rw [hrr.2.2.2.1, hTt.2]
            refine v_i2l dX0_luck_100 ?_
            refine v_lmul dX0_luck_101 ?_
            refine v_goto (tgt := 106) dX0_luck_102 (by decide) ?_
            refine v_ladd dX0_luck_106 ?_
            refine v_last dX0_luck_107 (xc_exact hX.2.2.2.2) rfl (by first | assumption | omega) ?_
            refine v_iinc dX0_luck_108 rfl (nI_dec1 j) (by decide) ?_
            refine v_goto (tgt := 52) dX0_luck_111 (by decide) ?_
            refine v_loc2 (by repeat' (first | with_reducible exact lsub_n | with_reducible refine lsub_c ?_ ?_ | with_reducible refine lk_hit ?_ | with_reducible refine lk_miss (by decide) ?_ ?_ | exact rfl)) (IHk j _ ⟨by omega, LF_L hrr, fun i hi9 => ?_⟩ (by omega))
            rw [hp_L_L]
            by_cases z : i = j
            · rw [if_pos ⟨rfl, z⟩, z, if_pos (Nat.le_refl _), hval]
            · rw [if_neg (fun y => z y.2), hJ i hi9]; by_cases u : j ≤ i
              · rw [if_pos (show j + 1 ≤ i by omega), if_pos u]
              · rw [if_neg (show ¬ j + 1 ≤ i by omega), if_neg u]
    · skip
      rw [nI_ltI (by omega) (by omega)] at b14
      refine v_aload_n dX0_luck_17 rfl rfl ?_
      refine v_getR fX0_84 dX0_luck_18 hX.1 (xc_Rexact hX.2.2.2.2) ?_
      refine v_iload_n dX0_luck_21 rfl rfl ?_
      refine v_iload_n dX0_luck_22 rfl rfl ?_
      refine v_if_ne (tgt := 30) dX0_luck_23 (by decide) (fun b23 => ?_) (fun b23 => ?_)
      · skip
        have hval : (0 : Int32).toInt64 = rr_ An Hn 0 n := (if_neg (fun z => b23 (by rw [z]; rfl))).symm
        refine v_lconst (v := (0 : Int32).toInt64) dX0_luck_30 (by decide) ?_
        refine v_last dX0_luck_31 (xc_exact hX.2.2.2.2) rfl (by first | assumption | omega) ?_
        refine v_iinc dX0_luck_32 rfl (by first | with_reducible exact nI_inc _ | exact rfl) (by decide) ?_
        refine v_goto (tgt := 11) dX0_luck_35 (by decide) ?_
        refine v_loc2 (by repeat' (first | with_reducible exact lsub_n | with_reducible refine lsub_c ?_ ?_ | with_reducible refine lk_hit ?_ | with_reducible refine lk_miss (by decide) ?_ ?_ | exact rfl)) (IH (n + 1) _ ⟨by omega, LF_L hI2, fun i h2 => ?_⟩ (by omega))
        rw [hp_L_L]; by_cases z : i = n
        · rw [if_pos ⟨rfl, z⟩, z]; exact hval
        · rw [if_neg (fun y => z y.2)]; exact hI3 i (by omega)
      · skip
        have hval : (1 : Int32).toInt64 = rr_ An Hn 0 n := (if_pos ((nI_eq (b := 0) (by omega) (by decide)).mp b23)).symm
        refine v_lconst (v := (1 : Int32).toInt64) dX0_luck_26 (by decide) ?_
        refine v_goto (tgt := 31) dX0_luck_27 (by decide) ?_
        refine v_last dX0_luck_31 (xc_exact hX.2.2.2.2) rfl (by first | assumption | omega) ?_
        refine v_iinc dX0_luck_32 rfl (by first | with_reducible exact nI_inc _ | exact rfl) (by decide) ?_
        refine v_goto (tgt := 11) dX0_luck_35 (by decide) ?_
        refine v_loc2 (by repeat' (first | with_reducible exact lsub_n | with_reducible refine lsub_c ?_ ?_ | with_reducible refine lk_hit ?_ | with_reducible refine lk_miss (by decide) ?_ ?_ | exact rfl)) (IH (n + 1) _ ⟨by omega, LF_L hI2, fun i h2 => ?_⟩ (by omega))
        rw [hp_L_L]; by_cases z : i = n
        · rw [if_pos ⟨rfl, z⟩, z]; exact hval
        · rw [if_neg (fun y => z y.2)]; exact hI3 i (by omega)
  · skip
    refine v_ldc2 (v := (-1 : Int32).toInt64) q1558 dX0_luck_5 (by decide) ?_
    exact v_retl dX0_luck_8 rfl ⟨congrArg (fun z => some (Value.long z)) (if_pos (Int32.not_le.mp b2)).symm, LF_rf⟩

def choa_ (An Hn : Nat → Int32) (nT : Nat) (x : Int32) : Int32 := ((1000000 : Int32).toInt64 * rwa_ An Hn nT x / rwa_ An Hn nT (-1)).toInt32
theorem XO_LF {h h1 : AH} {b sN : Nat} {S : Int32} (hX0 : XO_ h b sN S) (x : LF_ h h1) : XO_ h1 b sN S := ⟨by rw [x.2.1]; exact hX0.1, by rw [x.2.2.2.1]; exact hX0.2.1, by rw [x.2.2.1]; exact hX0.2.2.1, by rw [x.2.2.2.1]; exact hX0.2.2.2.1, XC_eq hX0.2.2.2.2 x.2.1 x.2.2.1⟩
theorem TX_LF {h h1 : AH} {An Hn : Nat → Int32} {nT : Nat} (a : TX_ h An Hn nT) (x : LF_ h h1) : TX_ h1 An Hn nT := TX_I a (by rw [x.2.2.2.1]) (by rw [x.2.2.2.1]) (by rw [x.2.2.2.1])
theorem c_X0_chanceOf {G : Gv} {h : AH} {b sN : Nat} {S : Int32} (hX : XO_ h b sN S) {An Hn : Nat → Int32} {nT : Nat} (hT : TX_ h An Hn nT) (hne : ¬ rwa_ An Hn nT (-1) = 0) (x : Int32) (hx : 0 ≤ x) : Ctr G 3 yX0_chanceOf cX0_chanceOf 2 (some .int) [.ref 30, .int x] h 0 0 (fun q h1 => q = some (.int (choa_ An Hn nT x)) ∧ LF_ h h1) := by
  refine ctr_of (own := RX0) (nm := "chanceOf") (by decide) (Nat.le_of_ble_eq_true rfl) ?_
  refine v_ldc2 (v := (1000000 : Int32).toInt64) q1564 dX0_chanceOf_0 (by decide) ?_
  refine v_aload_n dX0_chanceOf_3 rfl rfl ?_
  refine v_iload_n dX0_chanceOf_4 rfl rfl ?_
  refine v_zV mtX0_luck q1570 q1555 q1556 rfl (by decide) dX0_chanceOf_5 (c_X0_luck hX hT _) hX.1 (by first | decide | omega) (fun r5 h5 q5 z5 => ?_)
  obtain ⟨rfl, hL5⟩ := q5
  rw [if_neg (show ¬ x < -1 from fun z => absurd (Int32.lt_of_le_of_lt hx z) (by decide))]
  have hX := XO_LF hX hL5
  have hT := TX_LF hT hL5
  refine v_lmul dX0_chanceOf_8 ?_
  refine v_aload_n dX0_chanceOf_9 rfl rfl ?_
  refine v_iconst (v := -1) dX0_chanceOf_10 (by decide) ?_
  refine v_zV mtX0_luck q1570 q1555 q1556 rfl (by decide) dX0_chanceOf_11 (c_X0_luck hX hT _) hX.1 (by first | decide | omega) (fun r11 h11 q11 z11 => ?_)
  obtain ⟨rfl, hL11⟩ := q11
  rw [if_neg (show ¬ (-1 : Int32) < -1 by decide)]
  refine v_ldiv dX0_chanceOf_14 hne ?_
  refine v_l2i dX0_chanceOf_15 ?_
  exact v_reti dX0_chanceOf_16 rfl ⟨rfl, LF_tr hL5 hL11⟩

noncomputable def an_chance (An Hn : Nat → Int32) (nT : Nat) (x r : Int32) : Int32 := cf_ (0 ≤ x ∧ (1 ≤ r ∧ r ≤ 100)) (1000000 - (chx_ (choa_ An Hn nT x) r.toNatClampNeg).toInt32) (-1)
set_option maxHeartbeats 1000000 in
theorem c_X0_chance {G : Gv} {h : AH} {b sN : Nat} {S : Int32} (hX : XO_ h b sN S) {An Hn : Nat → Int32} {nT : Nat} (hT : TX_ h An Hn nT) (hne : ¬ rwa_ An Hn nT (-1) = 0) (x r : Int32) : Ctr G 4 yX0_chance cX0_chance 8 (some .int) [.ref 30, .int x, .int r] h 0 0 (fun q h1 => q = some (.int (an_chance An Hn nT x r)) ∧ LF_ h h1) := by
  refine ctr_of (own := RX0) (nm := "chance") (by decide) (Nat.le_of_ble_eq_true rfl) ?_
  refine v_cut 18 (0 ≤ x ∧ (1 ≤ r ∧ r ≤ 100)) (fun hz18 => ?_) (fun hc18 => ?_)
  · skip
    obtain ⟨rn, hrn, rfl⟩ := nI_rngE (x := r) (n := 100) ⟨by have := hz18.2.1; grind, hz18.2.2⟩ (by decide)
    have hx18 := hz18.1
    refine v_ldc2 (v := (1000000 : Int32).toInt64) q1564 dX0_chance_18 (by decide) ?_
    refine v_lstore_n dX0_chance_21 rfl (by decide) ?_
    refine v_ldcw q1565 dX0_chance_22 ?_
    refine v_aload_n dX0_chance_25 rfl rfl ?_
    refine v_iload_n dX0_chance_26 rfl rfl ?_
    refine v_zV mtX0_chanceOf q1566 q1568 qs55 rfl (by decide) dX0_chance_27 (c_X0_chanceOf hX hT hne _ ?_) hX.1 (by first | decide | omega) (fun r27 h27 q27 z27 => ?_)
    · exact hx18
    obtain ⟨rfl, hL27⟩ := q27
    refine v_isub dX0_chance_30 ?_
    refine v_i2l dX0_chance_31 ?_
    refine v_lstore dX0_chance_32 (by decide) ?_
    refine v_iconst (v := 0) dX0_chance_34 (by decide) ?_
    refine v_istore dX0_chance_35 (by decide) ?_
    refine v_loc2 (by repeat' (first | exact trivial | refine And.intro ?_ ?_ | exact rfl)) (v_lp1 (fun (k : Nat) => rn - k) (fun (k : Nat) => k ≤ rn) (fun (k : Nat) => [(0, .ref 30), (1, .int x), (2, .int (nI rn)), (3, .long (chx_ (choa_ An Hn nT x) k)), (5, .long (1000000 - choa_ An Hn nT x).toInt64), (7, .int (nI k))]) (fun _ => []) (fun (k : Nat) => h27) ?_ 0 (Nat.zero_le _))
    intro k hK IHk
    refine v_iload dX0_chance_37 rfl ?_
    refine v_iload_n dX0_chance_39 rfl rfl ?_
    refine v_icmp_ge (tgt := 58) dX0_chance_40 (by decide) (fun b40 => ?_) (fun b40 => ?_)
    · skip
      rw [nI_leI (by omega) (by omega)] at b40
      have hk : rn = k := by omega
      subst hk
      refine v_ldc2 (v := (1000000 : Int32).toInt64) q1564 dX0_chance_58 (by decide) ?_
      refine v_lload_n dX0_chance_61 rfl rfl ?_
      refine v_lsub dX0_chance_62 ?_
      refine v_l2i dX0_chance_63 ?_
      exact v_reti dX0_chance_64 rfl ⟨congrArg (fun z => some (Value.int z)) (by unfold an_chance; rw [cf_t hz18, nI_clamp (by omega), Int64.toInt32_sub]; rfl), hL27⟩
    · skip
      rw [nI_leI (by omega) (by omega)] at b40
      have hk : k < rn := by omega
      refine v_lload_n dX0_chance_43 rfl rfl ?_
      refine v_lload dX0_chance_44 rfl ?_
      refine v_lmul dX0_chance_46 ?_
      refine v_ldc2 (v := (1000000 : Int32).toInt64) q1564 dX0_chance_47 (by decide) ?_
      refine v_ldiv dX0_chance_50 (by decide) ?_
      refine v_lstore_n dX0_chance_51 rfl (by decide) ?_
      refine v_iinc dX0_chance_52 rfl (by first | with_reducible exact nI_inc _ | exact rfl) (by decide) ?_
      refine v_goto (tgt := 37) dX0_chance_55 (by decide) ?_
      refine v_loc2 (by repeat' (first | with_reducible exact lsub_n | with_reducible refine lsub_c ?_ ?_ | with_reducible refine lk_hit ?_ | with_reducible refine lk_miss (by decide) ?_ ?_ | exact rfl)) (IHk (k + 1) (by omega) (by omega))
  · skip
    refine v_cut 16 (¬ (0 ≤ x ∧ (1 ≤ r ∧ r ≤ 100))) (fun hz16 => ?_) (fun hc16 => ?_)
    · skip
      refine v_iconst (v := (-1)) dX0_chance_16 (by decide) ?_
      exact v_reti dX0_chance_17 rfl ⟨congrArg (fun z => some (Value.int z)) (by unfold an_chance; rw [cf_f hz16]), LF_rf⟩
    · skip
      refine v_iload_n dX0_chance_0 rfl rfl ?_
      refine v_if_lt (tgt := 16) dX0_chance_1 (by decide) (fun b1 => ?_) (fun b1 => ?_)
      · skip
        exact hc16 (by (try simp only [b2i_0, b2i_n0, b2c_0, b2c_n0] at *); grind)
      · skip
        refine v_iload_n dX0_chance_4 rfl rfl ?_
        refine v_i2l dX0_chance_5 ?_
        refine v_lconst (v := (1 : Int32).toInt64) dX0_chance_6 (by decide) ?_
        refine v_ldc2 (v := (100 : Int32).toInt64) q1563 dX0_chance_7 (by decide) ?_
        refine v_pS mtX0_in q162 q163 dX0_chance_10 (c_X0_in _ _ _) (by first | decide | omega) ?_
        refine v_if_ne (tgt := 18) dX0_chance_13 (by decide) (fun b13 => ?_) (fun b13 => ?_)
        · skip
          exact hc18 (by (try simp only [b2i_0, b2i_n0, b2c_0, b2c_n0] at *); grind)
        · skip
          exact hc16 (by (try simp only [b2i_0, b2i_n0, b2c_0, b2c_n0] at *); grind)

theorem gn_le (V : Nat → Prop) (s : Nat) : ∀ n, gn_ V s n ≤ n
  | 0 => Nat.le_refl _
  | n + 1 => by
    have := gn_le V s n
    rw [gn_s]
    split <;> omega
def eo_ (sN P w p : Nat) : Prop := dg_ w p = 0 ∨ (¬ dg_ w p = 3 ∧ P.testBit p = true ∧ dg_ w ((p + 1) % sN) = 0)
theorem dg_4 (w q : Nat) : dg_ w q < 4 := Nat.mod_lt _ (by decide)
theorem eo_vr {sN P w : Nat} (h3 : 3 ≤ sN) : (∀ p, p < sN → eo_ sN P w p) ↔ vr_ sN P 0 w := by
  constructor
  · intro H p _ hp
    by_cases z0 : dg_ w p = 0
    · exact Or.inl z0
    · obtain ⟨z1, z2, z3⟩ := (H p hp).resolve_left z0
      refine Or.inr ⟨z1, z2, fun q h1 h2 hb => ?_⟩
      rcases hb with e | e
      · rw [← e]; exact z3
      · rcases H q h2 with y | ⟨-, -, y⟩
        · exact y
        · rw [e] at y; exact absurd y z0
  · intro H p hp
    by_cases z0 : dg_ w p = 0
    · exact Or.inl z0
    · obtain ⟨z1, z2, z3⟩ := (H p (Nat.zero_le _) hp).resolve_left z0
      refine Or.inr ⟨z1, z2, ?_⟩
      have hl : (p + 1) % sN < sN := Nat.mod_lt _ (by omega)
      rcases Nat.lt_or_ge (p + 1) sN with y | y
      · exact z3 ((p + 1) % sN) (by rw [Nat.mod_eq_of_lt y]; omega) hl (Or.inl rfl)
      · have e : (p + 1) % sN = 0 := by rw [show p + 1 = sN by omega, Nat.mod_self]
        rw [e]
        by_cases u : dg_ w 0 = 0
        · exact u
        · exact absurd (((H 0 (Nat.le_refl _) (by omega)).resolve_left u).2.2 p (by omega) hp (Or.inr e)) z0
theorem pk_hit {V : Nat → Prop} {k : Nat} {i : Int32} (hV : V k) (hi : nI (gn_ V 0 k) = i) : ∀ n, k < n → n < 2 ^ 30 → pk_ V 0 0 i (-1) n = nI k
  | 0, h, _ => absurd h (Nat.not_lt_zero _)
  | n + 1, h, hn => by
    rw [pk_s, Nat.zero_add, Nat.zero_add]
    rcases Nat.lt_succ_iff_lt_or_eq.mp h with z | z
    · have hg : gn_ V 0 k + 1 ≤ gn_ V 0 n := by
        have e := gn_add V 0 (k + 1) (n - (k + 1))
        rw [show k + 1 + (n - (k + 1)) = n by omega] at e
        have e2 := gn_s V 0 k
        rw [Nat.zero_add, if_pos hV] at e2
        omega
      have hl := gn_le V 0 n
      rw [cf_f (fun y => by
        have := y.2.trans hi.symm
        rw [nI_eq (by omega) (by omega)] at this
        omega)]
      exact pk_hit hV hi n z (by omega)
    · rw [← z]; exact cf_t ⟨hV, hi⟩
theorem sh_410 : ∀ p, p < 10 → (1 : Int32) <<< (2 * nI p &&& 31) = nI (4 ^ p) := by decide +kernel
theorem c_X0_isEase {G : Gv} {h : AH} {b sN : Nat} {S : Int32} (hX : XO_ h b sN S) (h39 : 3 ≤ sN ∧ sN ≤ 9) {P w : Nat} (hP : P < 512) (hw : w < 2 ^ 31) : Ctr G 1 yX0_isEase cX0_isEase 5 (some .boolean) [.ref 30, .int (nI P), .int (nI w)] h 0 0 (Pu h (.int (b2c (vr_ sN P 0 w)))) := by
  refine ctr_of (own := RX0) (nm := "isEase") (by decide) (Nat.le_of_ble_eq_true rfl) ?_
  refine v_iconst (v := 0) dX0_isEase_0 (by decide) ?_
  refine v_istore_n dX0_isEase_1 rfl (by decide) ?_
  refine v_loc2 (by repeat' (first | exact trivial | refine And.intro ?_ ?_ | exact rfl)) (v_lp1 (fun (p : Nat) => sN - p) (fun (p : Nat) => p ≤ sN ∧ ∀ q, q < p → eo_ sN P w q) (fun (p : Nat) => [(0, .ref 30), (1, .int (nI P)), (2, .int (nI w)), (3, .int (nI p))]) (fun _ => []) (fun (p : Nat) => h) ?_ 0 ⟨Nat.zero_le _, fun q hq => absurd hq (Nat.not_lt_zero _)⟩)
  intro p ⟨hp, hI⟩ IH
  refine v_iload_n dX0_isEase_2 rfl rfl ?_
  refine v_aload_n dX0_isEase_3 rfl rfl ?_
  refine v_getI fX0_25 dX0_isEase_4 hX.1 ?_
  rw [hX.2.1]
  refine v_icmp_ge (tgt := 66) dX0_isEase_7 (by decide) (fun b7 => ?_) (fun b7 => ?_)
  · skip
    rw [nI_leI (by omega) (by omega)] at b7
    have hz9 : vr_ sN P 0 w := (eo_vr h39.1).mp (fun q hq => hI q (by omega))
    refine v_iconst (v := 1) dX0_isEase_66 (by decide) ?_
    first | exact v_reti dX0_isEase_67 rfl (Pu_i (b2c_t hz9).symm) | exact v_reti dX0_isEase_67 rfl (Pu_i (b2c_f hz9).symm)
  · skip
    rw [nI_leI (by omega) (by omega)] at b7
    have hkn : p < sN := by omega
    have hne : ¬ nI sN = 0 := nI_ne0 (by omega) (by omega)
    have hlm : (p + 1) % sN < sN := Nat.mod_lt _ (by omega)
    have hd4 := dg_4 w p
    have hd5 := dg_4 w ((p + 1) % sN)
    refine v_iload_n dX0_isEase_10 rfl rfl ?_
    refine v_iconst (v := 2) dX0_isEase_11 (by decide) ?_
    refine v_iload_n dX0_isEase_12 rfl rfl ?_
    refine v_imul dX0_isEase_13 ?_
    refine v_ishr dX0_isEase_14 ?_
    refine v_iconst (v := 3) dX0_isEase_15 (by decide) ?_
    refine v_iand dX0_isEase_16 ?_
    rw [sh_dg hw (by omega)]
    refine v_istore dX0_isEase_17 (by decide) ?_
    refine v_iload dX0_isEase_19 rfl ?_
    refine v_if_ne (tgt := 27) dX0_isEase_21 (by decide) (fun b21 => ?_) (fun b21 => ?_)
    · skip
      have b21c : ¬ dg_ w p = 0 := fun z => b21 (by rw [z]; rfl)
      refine v_iload dX0_isEase_27 rfl ?_
      refine v_iconst (v := 3) dX0_isEase_29 (by decide) ?_
      refine v_icmp_eq (tgt := 58) dX0_isEase_30 (by decide) (fun b30 => ?_) (fun b30 => ?_)
      · skip
        have b30c : dg_ w p = 3 := (nI_eq (b := 3) (by omega) (by decide)).mp b30
        have hno : ¬ eo_ sN P w p := fun z => z.elim b21c (fun y => y.1 b30c)
        have hz9 : ¬ vr_ sN P 0 w := fun z => hno ((eo_vr h39.1).mpr z p hkn)
        refine v_iconst (v := 0) dX0_isEase_58 (by decide) ?_
        first | exact v_reti dX0_isEase_59 rfl (Pu_i (b2c_t hz9).symm) | exact v_reti dX0_isEase_59 rfl (Pu_i (b2c_f hz9).symm)
      · skip
        have b30c : ¬ dg_ w p = 3 := fun z => b30 (by rw [z]; rfl)
        refine v_iload_n dX0_isEase_33 rfl rfl ?_
        refine v_iload_n dX0_isEase_34 rfl rfl ?_
        refine v_ishr dX0_isEase_35 ?_
        refine v_iconst (v := 1) dX0_isEase_36 (by decide) ?_
        refine v_iand dX0_isEase_37 ?_
        refine v_if_eq (tgt := 58) dX0_isEase_38 (by decide) (fun b38 => ?_) (fun b38 => ?_)
        · skip
          have hno : ¬ eo_ sN P w p := fun z => z.elim b21c (fun y => by
              have := (has_bit (w := P) (p := p) (by omega) (by omega)).mpr y.2.1
              rw [this] at b38; exact absurd b38 (by decide))
          have hz9 : ¬ vr_ sN P 0 w := fun z => hno ((eo_vr h39.1).mpr z p hkn)
          refine v_iconst (v := 0) dX0_isEase_58 (by decide) ?_
          first | exact v_reti dX0_isEase_59 rfl (Pu_i (b2c_t hz9).symm) | exact v_reti dX0_isEase_59 rfl (Pu_i (b2c_f hz9).symm)
        · skip
          have b38c : P.testBit p = true := (has_bit (w := P) (p := p) (by omega) (by omega)).mp ((hs_01 (by omega) (by omega)).resolve_left b38)
          refine v_iload_n dX0_isEase_41 rfl rfl ?_
          refine v_iconst (v := 2) dX0_isEase_42 (by decide) ?_
          refine v_iload_n dX0_isEase_43 rfl rfl ?_
          refine v_iconst (v := 1) dX0_isEase_44 (by decide) ?_
          refine v_iadd dX0_isEase_45 ?_
          refine v_aload_n dX0_isEase_46 rfl rfl ?_
          refine v_getI fX0_25 dX0_isEase_47 hX.1 ?_
          rw [hX.2.1]
          refine v_irem dX0_isEase_50 hne ?_
          rw [nI_1, pk_rem (by omega) (by omega) (by omega)]
          refine v_imul dX0_isEase_51 ?_
          refine v_ishr dX0_isEase_52 ?_
          refine v_iconst (v := 3) dX0_isEase_53 (by decide) ?_
          refine v_iand dX0_isEase_54 ?_
          rw [sh_dg hw (by omega)]
          refine v_if_eq (tgt := 60) dX0_isEase_55 (by decide) (fun b55 => ?_) (fun b55 => ?_)
          · skip
            have hnx : eo_ sN P w p := Or.inr ⟨b30c, b38c, (nI_eq (b := 0) (by omega) (by decide)).mp b55⟩
            refine v_iinc dX0_isEase_60 rfl (by first | with_reducible exact nI_inc _ | exact rfl) (by decide) ?_
            refine v_goto (tgt := 2) dX0_isEase_63 (by decide) ?_
            exact v_loc2 (by repeat' (first | exact trivial | refine And.intro ?_ ?_ | exact rfl)) (IH (p + 1) ⟨hkn, fun q hq => (Nat.lt_succ_iff_lt_or_eq.mp hq).elim (hI q) (fun y => by rw [y]; exact hnx)⟩ (by omega))
          · skip
            have hno : ¬ eo_ sN P w p := fun z => z.elim b21c (fun y => b55 (by rw [y.2.2]; rfl))
            have hz9 : ¬ vr_ sN P 0 w := fun z => hno ((eo_vr h39.1).mpr z p hkn)
            refine v_iconst (v := 0) dX0_isEase_58 (by decide) ?_
            first | exact v_reti dX0_isEase_59 rfl (Pu_i (b2c_t hz9).symm) | exact v_reti dX0_isEase_59 rfl (Pu_i (b2c_f hz9).symm)
    · skip
      have hnx : eo_ sN P w p := Or.inl ((nI_eq (b := 0) (by omega) (by decide)).mp b21)
      refine v_goto (tgt := 60) dX0_isEase_24 (by decide) ?_
      refine v_iinc dX0_isEase_60 rfl (by first | with_reducible exact nI_inc _ | exact rfl) (by decide) ?_
      refine v_goto (tgt := 2) dX0_isEase_63 (by decide) ?_
      exact v_loc2 (by repeat' (first | exact trivial | refine And.intro ?_ ?_ | exact rfl)) (IH (p + 1) ⟨hkn, fun q hq => (Nat.lt_succ_iff_lt_or_eq.mp hq).elim (hI q) (fun y => by rw [y]; exact hnx)⟩ (by omega))

noncomputable def an_ease (sN : Nat) (P i : Int32) : Int32 := cf_ ((0 ≤ P ∧ P ≤ nI (2 ^ sN - 1)) ∧ -1 ≤ i) (cf_ (i = -1) (nI (gn_ (vr_ sN P.toNatClampNeg 0) 0 (4 ^ sN))) (pk_ (vr_ sN P.toNatClampNeg 0) 0 0 i (-1) (4 ^ sN))) (-1)
theorem pk_none {V : Nat → Prop} {i : Int32} : ∀ n, (∀ j, j < n → ¬ (V j ∧ nI (gn_ V 0 j) = i)) → pk_ V 0 0 i (-1) n = -1
  | 0, _ => rfl
  | n + 1, h => by
    rw [pk_s, Nat.zero_add, Nat.zero_add, cf_f (h n (Nat.lt_succ_self n))]
    exact pk_none n (fun j hj => h j (by omega))
theorem im1 {i : Int32} (h1 : -1 ≤ i) (h2 : i < 0) : i = -1 := by
  have a := Int32.le_iff_toInt_le.mp h1
  have b := Int32.lt_iff_toInt_lt.mp h2
  have c : (-1 : Int32).toInt = -1 := by decide
  have e : (0 : Int32).toInt = 0 := by decide
  exact Int32.toInt_inj.mp (by omega)
theorem c_X0_ease {G : Gv} {h : AH} {b sN : Nat} {S : Int32} (hX : XO_ h b sN S) (h39 : 3 ≤ sN ∧ sN ≤ 9) (P i : Int32) : Ctr G 2 yX0_ease cX0_ease 5 (some .int) [.ref 30, .int P, .int i] h 0 0 (Pu h (.int (an_ease sN P i))) := by
  refine ctr_of (own := RX0) (nm := "ease") (by decide) (Nat.le_of_ble_eq_true rfl) ?_
  refine v_aload_n dX0_ease_0 rfl rfl ?_
  refine v_iload_n dX0_ease_1 rfl rfl ?_
  refine v_pV mtX0_isSet q794 q796 qs22 rfl (by decide) dX0_ease_2 (c_X0_isSet hX h39.2 _) hX.1 (by first | decide | omega) ?_
  refine v_if_eq (tgt := 13) dX0_ease_5 (by decide) (fun b5 => ?_) (fun b5 => ?_)
  · skip
    simp only [b2i_0, b2i_n0, b2c_0, b2c_n0, Classical.not_not] at b5
    refine v_iconst (v := (-1)) dX0_ease_13 (by decide) ?_
    exact v_reti dX0_ease_14 rfl (Pu_i (by unfold an_ease; first | rw [cf_f (fun z => b5 ((set_r h39.2).mpr z.1))] | rw [cf_f (fun z => b10 z.2)]))
  · skip
    simp only [b2i_0, b2i_n0, b2c_0, b2c_n0, Classical.not_not] at b5
    refine v_iload_n dX0_ease_8 rfl rfl ?_
    refine v_iconst (v := (-1)) dX0_ease_9 (by decide) ?_
    refine v_icmp_ge (tgt := 15) dX0_ease_10 (by decide) (fun b10 => ?_) (fun b10 => ?_)
    · skip
      have b5c := b5
      have hp2 : 2 ^ sN ≤ 2 ^ 9 := Nat.pow_le_pow_right (by decide) h39.2
      have hp4 : 4 ^ sN ≤ 4 ^ 9 := Nat.pow_le_pow_right (by decide) h39.2
      obtain ⟨Pn, hPn, rfl⟩ := nI_rng b5c (by omega)
      have b5d := (set_r h39.2).mp b5
      refine v_iconst (v := 0) dX0_ease_15 (by decide) ?_
      refine v_istore_n dX0_ease_16 rfl (by decide) ?_
      refine v_iconst (v := 0) dX0_ease_17 (by decide) ?_
      refine v_istore dX0_ease_18 (by decide) ?_
      refine v_loc2 (by repeat' (first | exact trivial | refine And.intro ?_ ?_ | exact rfl)) (v_lp1 (fun (k : Nat) => 4 ^ sN - k) (fun (k : Nat) => k ≤ 4 ^ sN ∧ ∀ j, j < k → ¬ ((vr_ sN Pn 0) j ∧ nI (gn_ (vr_ sN Pn 0) 0 j) = i)) (fun (k : Nat) => [(0, .ref 30), (1, .int (nI Pn)), (2, .int i), (3, .int (nI (gn_ (vr_ sN Pn 0) 0 k))), (4, .int (nI k))]) (fun _ => []) (fun (k : Nat) => h) ?_ 0 ⟨Nat.zero_le _, fun j hj => absurd hj (Nat.not_lt_zero _)⟩)
      intro k ⟨hk, hI⟩ IH
      have hgl := gn_le (vr_ sN Pn 0) 0 k
      refine v_iload dX0_ease_20 rfl ?_
      refine v_iconst (v := 1) dX0_ease_22 (by decide) ?_
      refine v_iconst (v := 2) dX0_ease_23 (by decide) ?_
      refine v_aload_n dX0_ease_24 rfl rfl ?_
      refine v_getI fX0_25 dX0_ease_25 hX.1 ?_
      rw [hX.2.1]
      refine v_imul dX0_ease_28 ?_
      refine v_ishl dX0_ease_29 ?_
      rw [sh_410 _ (by omega)]
      refine v_icmp_ge (tgt := 63) dX0_ease_30 (by decide) (fun b30 => ?_) (fun b30 => ?_)
      · skip
        rw [nI_leI (by omega) (by omega)] at b30
        have hk : k = 4 ^ sN := by omega
        subst hk
        refine v_iload_n dX0_ease_63 rfl rfl ?_
        refine v_if_ge (tgt := 71) dX0_ease_64 (by decide) (fun b64 => ?_) (fun b64 => ?_)
        · skip
          refine v_iconst (v := (-1)) dX0_ease_71 (by decide) ?_
          refine v_reti dX0_ease_72 rfl (Pu_i ?_)
          unfold an_ease; rw [cf_t ⟨b5d, b10⟩, nI_clamp (by omega)]
          first | rw [cf_f (fun z => by rw [z] at b64; exact absurd b64 (by decide)), pk_none _ hI] | rw [cf_t (im1 b10 (Int32.not_le.mp b64))]
        · skip
          refine v_iload_n dX0_ease_67 rfl rfl ?_
          refine v_goto (tgt := 72) dX0_ease_68 (by decide) ?_
          refine v_reti dX0_ease_72 rfl (Pu_i ?_)
          unfold an_ease; rw [cf_t ⟨b5d, b10⟩, nI_clamp (by omega)]
          first | rw [cf_f (fun z => by rw [z] at b64; exact absurd b64 (by decide)), pk_none _ hI] | rw [cf_t (im1 b10 (Int32.not_le.mp b64))]
      · skip
        rw [nI_leI (by omega) (by omega)] at b30
        have hkn : k < 4 ^ sN := by omega
        refine v_aload_n dX0_ease_33 rfl rfl ?_
        refine v_iload_n dX0_ease_34 rfl rfl ?_
        refine v_iload dX0_ease_35 rfl ?_
        refine v_pV mtX0_isEase q1575 q1577 qs56 rfl (by decide) dX0_ease_37 (c_X0_isEase hX h39 ?_ ?_) hX.1 (by first | decide | omega) ?_
        · omega
        · omega
        refine v_if_ne (tgt := 46) dX0_ease_40 (by decide) (fun b40 => ?_) (fun b40 => ?_)
        · skip
          have hb := b2c_n0.mp b40
          have hg9 : gn_ (vr_ sN Pn 0) 0 (k + 1) = gn_ (vr_ sN Pn 0) 0 k + 1 := by rw [gn_s, Nat.zero_add, if_pos hb]
          refine v_iload_n dX0_ease_46 rfl rfl ?_
          refine v_iload_n dX0_ease_47 rfl rfl ?_
          refine v_icmp_ne (tgt := 54) dX0_ease_48 (by decide) (fun b48 => ?_) (fun b48 => ?_)
          · skip
            have hnx : ¬ ((vr_ sN Pn 0) k ∧ nI (gn_ (vr_ sN Pn 0) 0 k) = i) := fun z => b48 z.2
            refine v_iinc dX0_ease_54 rfl (by first | with_reducible exact nI_inc _ | exact rfl) (by decide) ?_
            refine v_iinc dX0_ease_57 rfl (by first | with_reducible exact nI_inc _ | exact rfl) (by decide) ?_
            refine v_goto (tgt := 20) dX0_ease_60 (by decide) ?_
            refine v_loc2 (by repeat' (first | with_reducible exact lsub_n | with_reducible refine lsub_c ?_ ?_ | with_reducible refine lk_hit ?_ | with_reducible refine lk_miss (by decide) ?_ ?_ | (first | exact rfl | (rw [hg9]; exact rfl) | (rw [hg9]; done)))) (IH (k + 1) ⟨hkn, fun j hj => (Nat.lt_succ_iff_lt_or_eq.mp hj).elim (hI j) (fun y => by rw [y]; exact hnx)⟩ (by omega))
          · skip
            refine v_iload dX0_ease_51 rfl ?_
            refine v_reti dX0_ease_53 rfl (Pu_i ?_)
            unfold an_ease; rw [cf_t ⟨b5d, b10⟩, nI_clamp (by omega)]
            rw [cf_f (fun z => nI_ne1 (by omega) (b48.trans z)), pk_hit hb b48 _ hkn (by omega)]
        · skip
          have hb := b2c_0.mp b40
          have hg9 : gn_ (vr_ sN Pn 0) 0 (k + 1) = gn_ (vr_ sN Pn 0) 0 k := by rw [gn_s, Nat.zero_add, if_neg hb, Nat.add_zero]
          have hnx : ¬ ((vr_ sN Pn 0) k ∧ nI (gn_ (vr_ sN Pn 0) 0 k) = i) := fun z => hb z.1
          refine v_goto (tgt := 57) dX0_ease_43 (by decide) ?_
          refine v_iinc dX0_ease_57 rfl (by first | with_reducible exact nI_inc _ | exact rfl) (by decide) ?_
          refine v_goto (tgt := 20) dX0_ease_60 (by decide) ?_
          refine v_loc2 (by repeat' (first | with_reducible exact lsub_n | with_reducible refine lsub_c ?_ ?_ | with_reducible refine lk_hit ?_ | with_reducible refine lk_miss (by decide) ?_ ?_ | (first | exact rfl | (rw [hg9]; exact rfl) | (rw [hg9]; done)))) (IH (k + 1) ⟨hkn, fun j hj => (Nat.lt_succ_iff_lt_or_eq.mp hj).elim (hI j) (fun y => by rw [y]; exact hnx)⟩ (by omega))
    · skip
      refine v_iconst (v := (-1)) dX0_ease_13 (by decide) ?_
      exact v_reti dX0_ease_14 rfl (Pu_i (by unfold an_ease; first | rw [cf_f (fun z => b5 ((set_r h39.2).mpr z.1))] | rw [cf_f (fun z => b10 z.2)]))

noncomputable def an_fair (A : Nat → Int32) (C : Nat → Nat → Int32) (nC sN : Nat) (N K Z M : Nat → Int32) (nW : Nat) (An Hn : Nat → Int32) (nT : Nat) (S x l th g s e : Int32) : Int32 := cf_ ((0 ≤ S ∧ S ≤ nI (2 ^ nC - 1)) ∧ tka_ A sN th g s e ∧ 0 ≤ x ∧ (0 ≤ l ∧ l ≤ 1000000)) (cf_ (¬ dca_ A C nC sN S N K Z M nW th.toNatClampNeg g.toNatClampNeg s.toNatClampNeg e.toNatClampNeg) 1 (cf_ (l < choa_ An Hn nT x) 2 (cf_ (nI nT < x) 3 0))) (-1)
set_option maxHeartbeats 1000000 in
theorem c_X0_fair {G : Gv} {h : AH} {b nC sN : Nat} {A : Nat → Int32} {C : Nat → Nat → Int32} (hq : XQ_ h b A C nC sN 0) {N K Z M : Nat → Int32} {nW : Nat} (hWS : WS_ h N K Z M nW) {An Hn : Nat → Int32} {nT : Nat} (hT : TX_ h An Hn nT) (hne : ¬ rwa_ An Hn nT (-1) = 0) (S x l th g a e : Int32) : Ctr G 18 yX0_fair cX0_fair 8 (some .int) [.ref 30, .int S, .int x, .int l, .int th, .int g, .int a, .int e] h 0 0 (fun r h1 => r = some (.int (an_fair A C nC sN N K Z M nW An Hn nT S x l th g a e)) ∧ QF_ h h1) := by
  refine ctr_of (own := RX0) (nm := "fair") (by decide) (Nat.le_of_ble_eq_true rfl) ?_
  refine v_kd fun hkd => ?_
  have hq9 := hq
  obtain ⟨hX, hS, ⟨DC, cC, fC, hCA, hCE⟩, hv, hc⟩ := hq9
  have h39 := sv_s hv
  have h8 := hc.1
  have hlaid := sv_laid hv
  have hk0 := xc_run hX.2.2.2.2
  refine v_aload_n dX0_fair_0 rfl rfl ?_
  refine v_iload_n dX0_fair_1 rfl rfl ?_
  refine v_pV mtX0_areControls q1520 q1522 qs51 rfl (by decide) dX0_fair_2 (c_X0_areControls hq _) hX.1 (by first | decide | omega) ?_
  refine v_if_eq (tgt := 39) dX0_fair_5 (by decide) (fun b5 => ?_) (fun b5 => ?_)
  · skip
    simp only [b2i_0, b2i_n0, b2c_0, b2c_n0, Classical.not_not] at b5
    refine v_iconst (v := (-1)) dX0_fair_39 (by decide) ?_
    exact v_reti dX0_fair_40 rfl ⟨congrArg (fun z => some (Value.int z)) (by unfold an_fair; first | rw [cf_f (fun z => b5 ((set_r (by omega)).mpr z.1))] | rw [cf_f (fun z => b20 z.2.1)] | rw [cf_f (fun z => Int32.not_lt.mpr z.2.2.1 b24)] | rw [cf_f (fun z => b36 z.2.2.2)]), QF_rf⟩
  · skip
    simp only [b2i_0, b2i_n0, b2c_0, b2c_n0, Classical.not_not] at b5
    refine v_aload_n dX0_fair_8 rfl rfl ?_
    refine v_iload dX0_fair_9 rfl ?_
    refine v_iload dX0_fair_11 rfl ?_
    refine v_iload dX0_fair_13 rfl ?_
    refine v_iload dX0_fair_15 rfl ?_
    refine v_pV mtX0_isTask q798 q800 qs23 rfl (by decide) dX0_fair_17 (c_X0_isTask hX hS (sv_laid hv).2 (sv_laid hv).1 _ _ _ _) hX.1 (by first | decide | omega) ?_
    refine v_if_eq (tgt := 39) dX0_fair_20 (by decide) (fun b20 => ?_) (fun b20 => ?_)
    · skip
      simp only [b2i_0, b2i_n0, b2c_0, b2c_n0, Classical.not_not] at b20
      refine v_iconst (v := (-1)) dX0_fair_39 (by decide) ?_
      exact v_reti dX0_fair_40 rfl ⟨congrArg (fun z => some (Value.int z)) (by unfold an_fair; first | rw [cf_f (fun z => b5 ((set_r (by omega)).mpr z.1))] | rw [cf_f (fun z => b20 z.2.1)] | rw [cf_f (fun z => Int32.not_lt.mpr z.2.2.1 b24)] | rw [cf_f (fun z => b36 z.2.2.2)]), QF_rf⟩
    · skip
      simp only [b2i_0, b2i_n0, b2c_0, b2c_n0, Classical.not_not] at b20
      refine v_iload_n dX0_fair_23 rfl rfl ?_
      refine v_if_lt (tgt := 39) dX0_fair_24 (by decide) (fun b24 => ?_) (fun b24 => ?_)
      · skip
        refine v_iconst (v := (-1)) dX0_fair_39 (by decide) ?_
        exact v_reti dX0_fair_40 rfl ⟨congrArg (fun z => some (Value.int z)) (by unfold an_fair; first | rw [cf_f (fun z => b5 ((set_r (by omega)).mpr z.1))] | rw [cf_f (fun z => b20 z.2.1)] | rw [cf_f (fun z => Int32.not_lt.mpr z.2.2.1 b24)] | rw [cf_f (fun z => b36 z.2.2.2)]), QF_rf⟩
      · skip
        refine v_iload_n dX0_fair_27 rfl rfl ?_
        refine v_i2l dX0_fair_28 ?_
        refine v_lconst (v := (0 : Int32).toInt64) dX0_fair_29 (by decide) ?_
        refine v_ldc2 (v := (1000000 : Int32).toInt64) q1564 dX0_fair_30 (by decide) ?_
        refine v_pS mtX0_in q162 q163 dX0_fair_33 (c_X0_in _ _ _) (by first | decide | omega) ?_
        refine v_if_ne (tgt := 41) dX0_fair_36 (by decide) (fun b36 => ?_) (fun b36 => ?_)
        · skip
          simp only [b2i_0, b2i_n0, b2c_0, b2c_n0, Classical.not_not] at b36
          have b20c := b20
          obtain ⟨t1, g1, a1, e1, ht1, hg1, hae, he1, rfl, rfl, rfl, rfl⟩ := tka_d hv (show tka_ A sN th g a e from b20c)
          have b5c := (set_r (by omega)).mp b5
          have hx0 := Int32.not_lt.mp b24
          have hx0 : 0 ≤ x := by grind
          refine v_aload_n dX0_fair_41 rfl rfl ?_
          refine v_iload_n dX0_fair_42 rfl rfl ?_
          refine v_iload dX0_fair_43 rfl ?_
          refine v_iload dX0_fair_45 rfl ?_
          refine v_iload dX0_fair_47 rfl ?_
          refine v_iload dX0_fair_49 rfl ?_
          refine v_zV mtX0_isClosed q1524 q1526 qs52 rfl (by decide) dX0_fair_51 (c_X0_isClosed hq hWS ht1 hg1 hae he1 S) hX.1 (by first | decide | omega) (fun r51 h51 q51 z51 => ?_)
          obtain ⟨rfl, hR51⟩ := q51
          refine v_if_ne (tgt := 61) dX0_fair_54 (by decide) (fun b54 => ?_) (fun b54 => ?_)
          · skip
            have hd := b2c_n0.mp b54
            have hqx := XQ_R9 hq hR51 hkd
            have hX := hqx.1
            have hTx := TX_I hT (hR51.2.2.2.2 30 18 (by omega)) (funext fun k => hR51.2.2.2.2 238 k (by omega)) (funext fun k => hR51.2.2.2.2 239 k (by omega))
            refine v_aload_n dX0_fair_61 rfl rfl ?_
            refine v_iload_n dX0_fair_62 rfl rfl ?_
            refine v_zV mtX0_chanceOf q1566 q1568 qs55 rfl (by decide) dX0_fair_63 (c_X0_chanceOf hX hTx hne x hx0) hX.1 (by first | decide | omega) (fun r63 h63 q63 z63 => ?_)
            obtain ⟨rfl, hL63⟩ := q63
            refine v_iload_n dX0_fair_66 rfl rfl ?_
            refine v_icmp_le (tgt := 74) dX0_fair_67 (by decide) (fun b67 => ?_) (fun b67 => ?_)
            · skip
              have hX := XO_LF hX hL63
              refine v_iload_n dX0_fair_74 rfl rfl ?_
              refine v_aload_n dX0_fair_75 rfl rfl ?_
              refine v_getI fX0_105 dX0_fair_76 hX.1 ?_
              rw [(TX_LF hTx hL63).1]
              refine v_icmp_le (tgt := 86) dX0_fair_79 (by decide) (fun b79 => ?_) (fun b79 => ?_)
              · skip
                refine v_iconst (v := 0) dX0_fair_86 (by decide) ?_
                first | refine v_reti dX0_fair_87 rfl ⟨congrArg (fun z => some (Value.int z)) ?_, QF_tr (QF_R9 hR51) (QF_LF hL63)⟩ | refine v_reti dX0_fair_87 rfl ⟨congrArg (fun z => some (Value.int z)) ?_, QF_R9 hR51⟩
                unfold an_fair
                rw [cf_t ⟨b5c, b20, hx0, b36⟩, nI_clamp (by omega), nI_clamp (by omega), nI_clamp (by omega), nI_clamp (by omega)]
                first | (rw [cf_t hd]; done) | (rw [cf_f (fun z => z hd)]; first | (rw [cf_t (Int32.not_le.mp b67)]; done) | (rw [cf_f (Int32.not_lt.mpr b67)]; first | (rw [cf_t (Int32.not_le.mp b79)]; done) | (rw [cf_f (Int32.not_lt.mpr b79)]; done)))
              · skip
                refine v_iconst (v := 3) dX0_fair_82 (by decide) ?_
                refine v_goto (tgt := 87) dX0_fair_83 (by decide) ?_
                first | refine v_reti dX0_fair_87 rfl ⟨congrArg (fun z => some (Value.int z)) ?_, QF_tr (QF_R9 hR51) (QF_LF hL63)⟩ | refine v_reti dX0_fair_87 rfl ⟨congrArg (fun z => some (Value.int z)) ?_, QF_R9 hR51⟩
                unfold an_fair
                rw [cf_t ⟨b5c, b20, hx0, b36⟩, nI_clamp (by omega), nI_clamp (by omega), nI_clamp (by omega), nI_clamp (by omega)]
                first | (rw [cf_t hd]; done) | (rw [cf_f (fun z => z hd)]; first | (rw [cf_t (Int32.not_le.mp b67)]; done) | (rw [cf_f (Int32.not_lt.mpr b67)]; first | (rw [cf_t (Int32.not_le.mp b79)]; done) | (rw [cf_f (Int32.not_lt.mpr b79)]; done)))
            · skip
              refine v_iconst (v := 2) dX0_fair_70 (by decide) ?_
              refine v_goto (tgt := 87) dX0_fair_71 (by decide) ?_
              first | refine v_reti dX0_fair_87 rfl ⟨congrArg (fun z => some (Value.int z)) ?_, QF_tr (QF_R9 hR51) (QF_LF hL63)⟩ | refine v_reti dX0_fair_87 rfl ⟨congrArg (fun z => some (Value.int z)) ?_, QF_R9 hR51⟩
              unfold an_fair
              rw [cf_t ⟨b5c, b20, hx0, b36⟩, nI_clamp (by omega), nI_clamp (by omega), nI_clamp (by omega), nI_clamp (by omega)]
              first | (rw [cf_t hd]; done) | (rw [cf_f (fun z => z hd)]; first | (rw [cf_t (Int32.not_le.mp b67)]; done) | (rw [cf_f (Int32.not_lt.mpr b67)]; first | (rw [cf_t (Int32.not_le.mp b79)]; done) | (rw [cf_f (Int32.not_lt.mpr b79)]; done)))
          · skip
            have hd := b2c_0.mp b54
            refine v_iconst (v := 1) dX0_fair_57 (by decide) ?_
            refine v_goto (tgt := 87) dX0_fair_58 (by decide) ?_
            first | refine v_reti dX0_fair_87 rfl ⟨congrArg (fun z => some (Value.int z)) ?_, QF_tr (QF_R9 hR51) (QF_LF hL63)⟩ | refine v_reti dX0_fair_87 rfl ⟨congrArg (fun z => some (Value.int z)) ?_, QF_R9 hR51⟩
            unfold an_fair
            rw [cf_t ⟨b5c, b20, hx0, b36⟩, nI_clamp (by omega), nI_clamp (by omega), nI_clamp (by omega), nI_clamp (by omega)]
            first | (rw [cf_t hd]; done) | (rw [cf_f (fun z => z hd)]; first | (rw [cf_t (Int32.not_le.mp b67)]; done) | (rw [cf_f (Int32.not_lt.mpr b67)]; first | (rw [cf_t (Int32.not_le.mp b79)]; done) | (rw [cf_f (Int32.not_lt.mpr b79)]; done)))
        · skip
          simp only [b2i_0, b2i_n0, b2c_0, b2c_n0, Classical.not_not] at b36
          refine v_iconst (v := (-1)) dX0_fair_39 (by decide) ?_
          exact v_reti dX0_fair_40 rfl ⟨congrArg (fun z => some (Value.int z)) (by unfold an_fair; first | rw [cf_f (fun z => b5 ((set_r (by omega)).mpr z.1))] | rw [cf_f (fun z => b20 z.2.1)] | rw [cf_f (fun z => Int32.not_lt.mpr z.2.2.1 b24)] | rw [cf_f (fun z => b36 z.2.2.2)]), QF_rf⟩

noncomputable def an_count (A : Nat → Int32) (sN nC nW nR nT : Nat) (lo sm tp x : Int32) : Int32 := if x = 0 then nI sN else if x = 1 then A 4880 else if x = 2 then A 4881 else if x = 3 then A 4882 else if x = 4 then nI nW else if x = 5 then lo else if x = 6 then sm else if x = 7 then nI nR else if x = 8 then nI nC else if x = 9 then nI nT else if x = 10 then tp else -1
def an_status (F : Nat → Int32) (x : Int32) : Int32 := if 1 ≤ x ∧ x ≤ 5 then F x.toNatClampNeg else -1
def an_fault (k p x : Int32) : Int32 := if x = 0 then k else if x = 1 then p else -1
theorem c_X0_status {G : Gv} {h : AH} {b sN : Nat} {S : Int32} (hX : XO_ h b sN S) {F : Nat → Int32} (hF : ∀ k, k < 6 → hp_I h 31 k = F k) (x : Int32) : Ctr G 2 yX0_status cX0_status 2 (some .int) [.ref 30, .int x] h 0 0 (Pu h (.int (an_status F x))) := by
  refine ctr_of (own := RX0) (nm := "status") (by decide) (Nat.le_of_ble_eq_true rfl) ?_
  refine v_iload_n dX0_status_0 rfl rfl ?_
  refine v_i2l dX0_status_1 ?_
  refine v_lconst (v := (1 : Int32).toInt64) dX0_status_2 (by decide) ?_
  refine v_ldc2 (v := (5 : Int32).toInt64) q161 dX0_status_3 (by decide) ?_
  refine v_pS mtX0_in q162 q163 dX0_status_6 (c_X0_in _ _ _) (by first | decide | omega) ?_
  refine v_if_eq (tgt := 21) dX0_status_9 (by decide) (fun b9 => ?_) (fun b9 => ?_)
  · skip
    simp only [b2i_0, b2i_n0, b2c_0, b2c_n0, Classical.not_not] at b9
    refine v_iconst (v := (-1)) dX0_status_21 (by decide) ?_
    exact v_reti dX0_status_22 rfl (Pu_i (by unfold an_status; first | rw [if_neg b9] | rw [if_pos b9, nI_clamp (by omega)]))
  · skip
    simp only [b2i_0, b2i_n0, b2c_0, b2c_n0, Classical.not_not] at b9
    have b9c := b9
    obtain ⟨xn, hxn, rfl⟩ := nI_rngE (x := x) (n := 5) ⟨by have := b9c.1; grind, b9c.2⟩ (by decide)
    refine v_aload_n dX0_status_12 rfl rfl ?_
    refine v_getR fX0_13 dX0_status_13 hX.1 (xc_Rrefusals hX.2.2.2.2) ?_
    refine v_iload_n dX0_status_16 rfl rfl ?_
    refine v_iald dX0_status_17 (xc_refusals hX.2.2.2.2) rfl (by first | assumption | omega) ?_
    rw [hF _ (by omega)]
    refine v_goto (tgt := 22) dX0_status_18 (by decide) ?_
    exact v_reti dX0_status_22 rfl (Pu_i (by unfold an_status; first | rw [if_neg b9] | rw [if_pos b9, nI_clamp (by omega)]))

theorem c_X0_fault {G : Gv} {h : AH} {b sN : Nat} {S : Int32} (hX : XO_ h b sN S) (x : Int32) : Ctr G 1 yX0_fault cX0_fault 2 (some .int) [.ref 30, .int x] h 0 0 (Pu h (.int (an_fault (hp_I h 30 12) (hp_I h 30 13) x))) := by
  refine ctr_of (own := RX0) (nm := "fault") (by decide) (Nat.le_of_ble_eq_true rfl) ?_
  refine v_iload_n dX0_fault_0 rfl rfl ?_
  refine v_if_ne (tgt := 11) dX0_fault_1 (by decide) (fun b1 => ?_) (fun b1 => ?_)
  · skip
    refine v_iload_n dX0_fault_11 rfl rfl ?_
    refine v_iconst (v := 1) dX0_fault_12 (by decide) ?_
    refine v_icmp_ne (tgt := 23) dX0_fault_13 (by decide) (fun b13 => ?_) (fun b13 => ?_)
    · skip
      refine v_iconst (v := (-1)) dX0_fault_23 (by decide) ?_
      exact v_reti dX0_fault_24 rfl (Pu_i (by unfold an_fault; first | rw [if_pos b1] | rw [if_neg b1, if_pos b13] | rw [if_neg b1, if_neg b13]))
    · skip
      refine v_aload_n dX0_fault_16 rfl rfl ?_
      refine v_getI fX0_65 dX0_fault_17 hX.1 ?_
      refine v_goto (tgt := 24) dX0_fault_20 (by decide) ?_
      exact v_reti dX0_fault_24 rfl (Pu_i (by unfold an_fault; first | rw [if_pos b1] | rw [if_neg b1, if_pos b13] | rw [if_neg b1, if_neg b13]))
  · skip
    refine v_aload_n dX0_fault_4 rfl rfl ?_
    refine v_getI fX0_345 dX0_fault_5 hX.1 ?_
    refine v_goto (tgt := 24) dX0_fault_8 (by decide) ?_
    exact v_reti dX0_fault_24 rfl (Pu_i (by unfold an_fault; first | rw [if_pos b1] | rw [if_neg b1, if_pos b13] | rw [if_neg b1, if_neg b13]))

theorem cnt_o {A : Nat → Int32} {sN nC nW nR nT : Nat} {lo sm tp x : Int32} (h : ¬ (0 ≤ x ∧ x ≤ nI 10)) : an_count A sN nC nW nR nT lo sm tp x = -1 := by
  unfold an_count
  have key : ∀ k, k ≤ 10 → ¬ x = nI k := fun k hk e => h (by rw [e]; exact ⟨Int32.not_lt.mp (nI_pos (by omega)), (nI_leI (by omega) (by omega)).mpr hk⟩)
  rw [if_neg (show ¬ x = 0 from key 0 (by decide)), if_neg (show ¬ x = 1 from key 1 (by decide)), if_neg (show ¬ x = 2 from key 2 (by decide)), if_neg (show ¬ x = 3 from key 3 (by decide)), if_neg (show ¬ x = 4 from key 4 (by decide)), if_neg (show ¬ x = 5 from key 5 (by decide)), if_neg (show ¬ x = 6 from key 6 (by decide)), if_neg (show ¬ x = 7 from key 7 (by decide)), if_neg (show ¬ x = 8 from key 8 (by decide)), if_neg (show ¬ x = 9 from key 9 (by decide)), if_neg (show ¬ x = 10 from key 10 (by decide))]
theorem c_X0_count {G : Gv} {h : AH} {b nC sN : Nat} {A : Nat → Int32} {C : Nat → Nat → Int32} (hq : XQ_ h b A C nC sN 0) {T : Nat → Int32} {nR : Nat} (hRP : rp_ok T nR sN) {DR cR : Nat} {fR : Nat → Nat} (hRA : AL_ h 96 DR cR nR fR) (hRE : ∀ r, r < nR → RE_ h (fR r) T r) {N K Z M : Nat → Int32} {nW : Nat} (hWS : WS_ h N K Z M nW) (hN : gn_ok G) {nT : Nat} (hT : hp_I h 30 18 = nI nT) (x : Int32) : Ctr G 4 yX0_count cX0_count 2 (some .int) [.ref 30, .int x] h 0 0 (Pu h (.int (an_count A sN nC nW nR nT (hp_I h 30 7) (hp_I h 30 8) (hp_I h 30 11) x))) := by
  refine ctr_of (own := RX0) (nm := "count") (by decide) (Nat.le_of_ble_eq_true rfl) ?_
  have hq9 := hq
  obtain ⟨hX, hS, ⟨DC, cC, fC, hCA, hCE⟩, hv, hc⟩ := hq9
  have h39 := sv_s hv
  have hWS9 := hWS
  obtain ⟨hW8, hWN, LW, DW, cW, fW, hWR, hWA, hWE9⟩ := hWS9
  obtain ⟨DL, cL, fL, hLA, hLE⟩ := si_leads hS
  obtain ⟨DM, cM, fM, hMA, hME⟩ := si_moves hS
  refine v_iload_n dX0_count_0 rfl rfl ?_
  by_cases hsw : 0 ≤ x ∧ x ≤ nI 10
  · skip
    obtain ⟨ksw, hk, rfl⟩ := nI_rngE hsw (by decide)
    rcases (show ksw = 0 ∨ ksw = 1 ∨ ksw = 2 ∨ ksw = 3 ∨ ksw = 4 ∨ ksw = 5 ∨ ksw = 6 ∨ ksw = 7 ∨ ksw = 8 ∨ ksw = 9 ∨ ksw = 10 by omega) with rfl | rfl | rfl | rfl | rfl | rfl | rfl | rfl | rfl | rfl | rfl
    · refine v_tableIn (tgt := 60) (off := 59) dX0_count_1 (by decide) (by decide) (by decide) (by decide) ?_
      refine v_aload_n dX0_count_60 rfl rfl ?_
      refine v_getI fX0_25 dX0_count_61 hX.1 ?_
      rw [hX.2.1]
      first | exact v_reti dX0_count_64 rfl (Pu_i rfl) | exact v_reti dX0_count_64 rfl (Pu_i (sv_led hv).2.symm) | exact v_reti dX0_count_64 rfl (Pu_i (sv_mov hv).2.symm) | exact v_reti dX0_count_64 rfl (Pu_i (cnt_o hsw).symm)
    · refine v_tableIn (tgt := 65) (off := 64) dX0_count_1 (by decide) (by decide) (by decide) (by decide) ?_
      refine v_aload_n dX0_count_65 rfl rfl ?_
      refine v_getR fX0_32 dX0_count_66 hX.1 hX.2.2.1 ?_
      refine v_getR fX0_134 dX0_count_69 (si_K hS) (si_Rleads hS) ?_
      refine v_pV mtJ2_size q481 q482 q483 rfl (by decide) dX0_count_72 (c_J2_size hLA) (hLA).1 (by first | decide | omega) ?_
      first | exact v_reti dX0_count_75 rfl (Pu_i rfl) | exact v_reti dX0_count_75 rfl (Pu_i (sv_led hv).2.symm) | exact v_reti dX0_count_75 rfl (Pu_i (sv_mov hv).2.symm) | exact v_reti dX0_count_75 rfl (Pu_i (cnt_o hsw).symm)
    · refine v_tableIn (tgt := 76) (off := 75) dX0_count_1 (by decide) (by decide) (by decide) (by decide) ?_
      refine v_aload_n dX0_count_76 rfl rfl ?_
      refine v_getR fX0_32 dX0_count_77 hX.1 hX.2.2.1 ?_
      refine v_getI fX0_88 dX0_count_80 (si_K hS) ?_
      rw [si_things hS]
      first | exact v_reti dX0_count_83 rfl (Pu_i rfl) | exact v_reti dX0_count_83 rfl (Pu_i (sv_led hv).2.symm) | exact v_reti dX0_count_83 rfl (Pu_i (sv_mov hv).2.symm) | exact v_reti dX0_count_83 rfl (Pu_i (cnt_o hsw).symm)
    · refine v_tableIn (tgt := 84) (off := 83) dX0_count_1 (by decide) (by decide) (by decide) (by decide) ?_
      refine v_aload_n dX0_count_84 rfl rfl ?_
      refine v_getR fX0_32 dX0_count_85 hX.1 hX.2.2.1 ?_
      refine v_getR fX0_159 dX0_count_88 (si_K hS) (si_Rmoves hS) ?_
      refine v_pV mtJ2_size q481 q482 q483 rfl (by decide) dX0_count_91 (c_J2_size hMA) (hMA).1 (by first | decide | omega) ?_
      first | exact v_reti dX0_count_94 rfl (Pu_i rfl) | exact v_reti dX0_count_94 rfl (Pu_i (sv_led hv).2.symm) | exact v_reti dX0_count_94 rfl (Pu_i (sv_mov hv).2.symm) | exact v_reti dX0_count_94 rfl (Pu_i (cnt_o hsw).symm)
    · refine v_tableIn (tgt := 95) (off := 94) dX0_count_1 (by decide) (by decide) (by decide) (by decide) ?_
      refine v_aload_n dX0_count_95 rfl rfl ?_
      refine v_getR fX0_49 dX0_count_96 hX.1 hWR ?_
      refine v_pV mtJ2_size q481 q482 q483 rfl (by decide) dX0_count_99 (c_J2_size hWA) (hWA).1 (by first | decide | omega) ?_
      first | exact v_reti dX0_count_102 rfl (Pu_i rfl) | exact v_reti dX0_count_102 rfl (Pu_i (sv_led hv).2.symm) | exact v_reti dX0_count_102 rfl (Pu_i (sv_mov hv).2.symm) | exact v_reti dX0_count_102 rfl (Pu_i (cnt_o hsw).symm)
    · refine v_tableIn (tgt := 103) (off := 102) dX0_count_1 (by decide) (by decide) (by decide) (by decide) ?_
      refine v_aload_n dX0_count_103 rfl rfl ?_
      refine v_getI fX0_357 dX0_count_104 hX.1 ?_
      first | exact v_reti dX0_count_107 rfl (Pu_i rfl) | exact v_reti dX0_count_107 rfl (Pu_i (sv_led hv).2.symm) | exact v_reti dX0_count_107 rfl (Pu_i (sv_mov hv).2.symm) | exact v_reti dX0_count_107 rfl (Pu_i (cnt_o hsw).symm)
    · refine v_tableIn (tgt := 108) (off := 107) dX0_count_1 (by decide) (by decide) (by decide) (by decide) ?_
      refine v_aload_n dX0_count_108 rfl rfl ?_
      refine v_getI fX0_363 dX0_count_109 hX.1 ?_
      first | exact v_reti dX0_count_112 rfl (Pu_i rfl) | exact v_reti dX0_count_112 rfl (Pu_i (sv_led hv).2.symm) | exact v_reti dX0_count_112 rfl (Pu_i (sv_mov hv).2.symm) | exact v_reti dX0_count_112 rfl (Pu_i (cnt_o hsw).symm)
    · refine v_tableIn (tgt := 113) (off := 112) dX0_count_1 (by decide) (by decide) (by decide) (by decide) ?_
      refine v_aload_n dX0_count_113 rfl rfl ?_
      refine v_getR fX0_68 dX0_count_114 hX.1 (xc_Rreports hX.2.2.2.2) ?_
      refine v_pV mtJ2_size q481 q482 q483 rfl (by decide) dX0_count_117 (c_J2_size hRA) (hRA).1 (by first | decide | omega) ?_
      first | exact v_reti dX0_count_120 rfl (Pu_i rfl) | exact v_reti dX0_count_120 rfl (Pu_i (sv_led hv).2.symm) | exact v_reti dX0_count_120 rfl (Pu_i (sv_mov hv).2.symm) | exact v_reti dX0_count_120 rfl (Pu_i (cnt_o hsw).symm)
    · refine v_tableIn (tgt := 121) (off := 120) dX0_count_1 (by decide) (by decide) (by decide) (by decide) ?_
      refine v_aload_n dX0_count_121 rfl rfl ?_
      refine v_getR fX0_45 dX0_count_122 hX.1 (xc_Rcontrols hX.2.2.2.2) ?_
      refine v_pV mtJ2_size q481 q482 q483 rfl (by decide) dX0_count_125 (c_J2_size hCA) (hCA).1 (by first | decide | omega) ?_
      first | exact v_reti dX0_count_128 rfl (Pu_i rfl) | exact v_reti dX0_count_128 rfl (Pu_i (sv_led hv).2.symm) | exact v_reti dX0_count_128 rfl (Pu_i (sv_mov hv).2.symm) | exact v_reti dX0_count_128 rfl (Pu_i (cnt_o hsw).symm)
    · refine v_tableIn (tgt := 129) (off := 128) dX0_count_1 (by decide) (by decide) (by decide) (by decide) ?_
      refine v_aload_n dX0_count_129 rfl rfl ?_
      refine v_getI fX0_105 dX0_count_130 hX.1 ?_
      rw [hT]
      first | exact v_reti dX0_count_133 rfl (Pu_i rfl) | exact v_reti dX0_count_133 rfl (Pu_i (sv_led hv).2.symm) | exact v_reti dX0_count_133 rfl (Pu_i (sv_mov hv).2.symm) | exact v_reti dX0_count_133 rfl (Pu_i (cnt_o hsw).symm)
    · refine v_tableIn (tgt := 134) (off := 133) dX0_count_1 (by decide) (by decide) (by decide) (by decide) ?_
      refine v_aload_n dX0_count_134 rfl rfl ?_
      refine v_getI fX0_328 dX0_count_135 hX.1 ?_
      first | exact v_reti dX0_count_138 rfl (Pu_i rfl) | exact v_reti dX0_count_138 rfl (Pu_i (sv_led hv).2.symm) | exact v_reti dX0_count_138 rfl (Pu_i (sv_mov hv).2.symm) | exact v_reti dX0_count_138 rfl (Pu_i (cnt_o hsw).symm)
  · skip
    refine v_tableOut (tgt := 139) dX0_count_1 (sw_out hsw (by decide)) (by decide) ?_
    refine v_iconst (v := (-1)) dX0_count_139 (by decide) ?_
    first | exact v_reti dX0_count_140 rfl (Pu_i rfl) | exact v_reti dX0_count_140 rfl (Pu_i (sv_led hv).2.symm) | exact v_reti dX0_count_140 rfl (Pu_i (sv_mov hv).2.symm) | exact v_reti dX0_count_140 rfl (Pu_i (cnt_o hsw).symm)

