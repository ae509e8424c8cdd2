set_option maxRecDepth 100000
/-- a report in the heap: of a thing that came, of a hand that was held -/
def CA_ (h : AH) (q : Nat) (T : Nat → Int32) (r : Nat) : Prop := hp_K h q = (19, 0) ∧ (hp_I h q 0 = T (7 * r) ∧ hp_I h q 1 = T (7 * r + 4) ∧ hp_I h q 2 = T (7 * r + 5) ∧ hp_I h q 3 = T (7 * r + 6)) ∧ hp_I h q 5 = T (7 * r + 2) ∧ hp_I h q 6 = T (7 * r + 3) ∧ hp_R h q 7 = some 30 ∧ T (7 * r + 1) = 0
def HE_ (h : AH) (q : Nat) (T : Nat → Int32) (r : Nat) : Prop := hp_K h q = (20, 0) ∧ (hp_I h q 0 = T (7 * r) ∧ hp_I h q 1 = T (7 * r + 4) ∧ hp_I h q 2 = T (7 * r + 5) ∧ hp_I h q 3 = T (7 * r + 6)) ∧ hp_I h q 5 = T (7 * r + 2) ∧ hp_R h q 6 = some 30 ∧ T (7 * r + 1) = 1
def RE_ (h : AH) (q : Nat) (T : Nat → Int32) (r : Nat) : Prop := CA_ h q T r ∨ HE_ h q T r
def RL_ (h : AH) (T : Nat → Int32) (nR : Nat) : Prop := ∃ D c f, AL_ h 96 D c nR f ∧ ∀ r, r < nR → RE_ h (f r) T r
theorem RE_k {h : AH} {q r : Nat} {T : Nat → Int32} (e : RE_ h q T r) : ∃ c, 19 ≤ c ∧ c ≤ 20 ∧ hp_K h q = (c, 0) := e.elim (fun z => ⟨19, by omega, by omega, z.1⟩) (fun z => ⟨20, by omega, by omega, z.1⟩)
theorem RE_s {h h1 : AH} {q r : Nat} {T : Nat → Int32} (s : sm_ h h1 q) (e : RE_ h q T r) : RE_ h1 q T r := by
  obtain ⟨a1, a2, a3, a4⟩ := s
  rcases e with ⟨k, ⟨e1, e2, e3, e4⟩, e5, e6, e7, e8⟩ | ⟨k, ⟨e1, e2, e3, e4⟩, e5, e7, e8⟩
  · exact Or.inl ⟨a1.trans k, ⟨(a2 0).trans e1, (a2 1).trans e2, (a2 2).trans e3, (a2 3).trans e4⟩, (a2 5).trans e5, (a2 6).trans e6, (a4 7).trans e7, e8⟩
  · exact Or.inr ⟨a1.trans k, ⟨(a2 0).trans e1, (a2 1).trans e2, (a2 2).trans e3, (a2 3).trans e4⟩, (a2 5).trans e5, (a4 6).trans e7, e8⟩
theorem RE_J {P : Nat → Prop} {h h1 : AH} {q r : Nat} {T : Nat → Int32} (hs : RE_ h q T r) (hf : FR_ P h h1) (hk : kd_ok h) (hj : NJ_ P h) : RE_ h1 q T r := by
  obtain ⟨c9, q1, q2, q3⟩ := RE_k hs
  exact RE_s (NJ_s hf hk hj q3 (dk_o (by omega))) hs
theorem RL_J {P : Nat → Prop} {h h1 : AH} {T : Nat → Int32} {nR : Nat} (hs : RL_ h T nR) (hf : FR_ P h h1) (hk : kd_ok h) (hj : NJ_ P h) : RL_ h1 T nR := by
  obtain ⟨D, c, f, hA, hE⟩ := hs
  exact ⟨D, c, f, AL_J hA hf hk hj, fun r hr => RE_J (hE r hr) hf hk hj⟩
theorem CA_J {P : Nat → Prop} {h h1 : AH} {q r : Nat} {T : Nat → Int32} (hs : CA_ h q T r) (hf : FR_ P h h1) (hk : kd_ok h) (hj : NJ_ P h) : CA_ h1 q T r := (RE_J (Or.inl hs) hf hk hj).resolve_right (fun z => by
  have := hs.2.2.2.2.2.symm.trans z.2.2.2.2
  exact absurd this (by decide))
/-- what the class keeps beside: loss and smooth -/
def LS_ (h : AH) (lo sm : Int32) : Prop := hp_I h 30 7 = lo ∧ hp_I h 30 8 = sm
theorem v_getE {G : Gv} {d : Nat} {own nm : String} {cc : ByteArray} {nL : Nat} {ret : Option FieldType} {mc ms : Nat} {Q : Option Value → AH → Prop} {pc : Nat} {l : List (Nat × Value)} {st : List Value} {h : AH} {idx k p r : Nat} {T : Nat → Int32} {d1 d2 : String} {a1 a2 n1 n2 : Bool} (hE : RE_ h p T r) (f1 : fd_ own idx 19 k "I" a1 d1 n1) (f2 : fd_ own idx 20 k "I" a2 d2 n2) (hdg : decode cc pc = .ok (.getfield idx, 3)) (kk : Vv G d own nm cc nL ret mc ms Q (pc + 3) l (.int (hp_I h p k) :: st) h) : Vv G d own nm cc nL ret mc ms Q pc l (.ref p :: st) h := by
  rcases hE with z | z
  · exact v_getI f1 hdg z.1 kk
  · exact v_getI f2 hdg z.1 kk
theorem re_KO {h : AH} {q r : Nat} {T : Nat → Int32} (hq : RE_ h q T r) : KO_ h q "RapTable$Report" := by
  rcases hq with hK | hK
  · exact ⟨19, _, _, _, hK.1, by decide, rfl, nw_m q2239 rfl⟩
  · exact ⟨20, _, _, _, hK.1, by decide, rfl, nw_m q2240 rfl⟩
theorem re_e {h : AH} {q r : Nat} {T : Nat → Int32} (e : RE_ h q T r) : hp_I h q 0 = T (7 * r) ∧ hp_I h q 1 = T (7 * r + 4) ∧ hp_I h q 2 = T (7 * r + 5) ∧ hp_I h q 3 = T (7 * r + 6) := e.elim (fun z => z.2.1) (fun z => z.2.1)
theorem c_X19_isMove {G : Gv} {h : AH} {q p r mv : Nat} {T A : Nat → Int32} (hE : CA_ h q T r) (hM : MO_ h p A mv) (sl : Int32) : Ctr G 0 yX19_isMove cX19_isMove 3 (some .boolean) [.ref q, .ref p, .int sl] h 0 0 (Pu h (.int (b2c (su_ A T mv r sl)))) := by
  refine ctr_of (own := RX19) (nm := "isMove") (by decide) (Nat.le_of_ble_eq_true rfl) ?_
  refine v_aload_n dX19_isMove_0 rfl rfl ?_
  refine v_getI fX19_22 dX19_isMove_1 (hM).1 ?_
  rw [hM.2.2.1]
  refine v_aload_n dX19_isMove_4 rfl rfl ?_
  refine v_getI fX19_15 dX19_isMove_5 hE.1 ?_
  rw [hE.2.2.1]
  refine v_icmp_ne (tgt := 52) dX19_isMove_8 (by decide) (fun b8 => ?_) (fun b8 => ?_)
  · skip
    have hz9 : ¬ su_ A T mv r sl := fun z => b8 z.1
    refine v_iconst (v := 0) dX19_isMove_52 (by decide) ?_
    first | exact v_reti dX19_isMove_53 rfl (Pu_i (b2c_t hz9).symm) | exact v_reti dX19_isMove_53 rfl (Pu_i (b2c_f hz9).symm)
  · skip
    refine v_aload_n dX19_isMove_11 rfl rfl ?_
    refine v_getI fX19_25 dX19_isMove_12 (hM).1 ?_
    rw [hM.2.2.2.2.1]
    refine v_aload_n dX19_isMove_15 rfl rfl ?_
    refine v_getI fX19_19 dX19_isMove_16 hE.1 ?_
    rw [hE.2.2.2.1]
    refine v_icmp_ne (tgt := 52) dX19_isMove_19 (by decide) (fun b19 => ?_) (fun b19 => ?_)
    · skip
      have hz9 : ¬ su_ A T mv r sl := fun z => b19 z.2.1
      refine v_iconst (v := 0) dX19_isMove_52 (by decide) ?_
      first | exact v_reti dX19_isMove_53 rfl (Pu_i (b2c_t hz9).symm) | exact v_reti dX19_isMove_53 rfl (Pu_i (b2c_f hz9).symm)
    · skip
      refine v_aload_n dX19_isMove_22 rfl rfl ?_
      refine v_getI fX19_28 dX19_isMove_23 (hM).1 ?_
      rw [hM.2.2.2.2.2]
      refine v_aload_n dX19_isMove_26 rfl rfl ?_
      refine v_getI fX19_31 dX19_isMove_27 hE.1 ?_
      rw [hE.2.1.2.1]
      refine v_iload_n dX19_isMove_30 rfl rfl ?_
      refine v_isub dX19_isMove_31 ?_
      refine v_icmp_lt (tgt := 52) dX19_isMove_32 (by decide) (fun b32 => ?_) (fun b32 => ?_)
      · skip
        have hz9 : ¬ su_ A T mv r sl := fun z => Int32.not_lt.mpr z.2.2.1 b32
        refine v_iconst (v := 0) dX19_isMove_52 (by decide) ?_
        first | exact v_reti dX19_isMove_53 rfl (Pu_i (b2c_t hz9).symm) | exact v_reti dX19_isMove_53 rfl (Pu_i (b2c_f hz9).symm)
      · skip
        refine v_aload_n dX19_isMove_35 rfl rfl ?_
        refine v_getI fX19_28 dX19_isMove_36 (hM).1 ?_
        rw [hM.2.2.2.2.2]
        refine v_aload_n dX19_isMove_39 rfl rfl ?_
        refine v_getI fX19_34 dX19_isMove_40 hE.1 ?_
        rw [hE.2.1.2.2.1]
        refine v_iload_n dX19_isMove_43 rfl rfl ?_
        refine v_iadd dX19_isMove_44 ?_
        refine v_icmp_gt (tgt := 52) dX19_isMove_45 (by decide) (fun b45 => ?_) (fun b45 => ?_)
        · skip
          have hz9 : ¬ su_ A T mv r sl := fun z => Int32.not_lt.mpr z.2.2.2 b45
          refine v_iconst (v := 0) dX19_isMove_52 (by decide) ?_
          first | exact v_reti dX19_isMove_53 rfl (Pu_i (b2c_t hz9).symm) | exact v_reti dX19_isMove_53 rfl (Pu_i (b2c_f hz9).symm)
        · skip
          have hz9 : su_ A T mv r sl := ⟨b8, b19, Int32.not_lt.mp b32, Int32.not_lt.mp b45⟩
          refine v_iconst (v := 1) dX19_isMove_48 (by decide) ?_
          refine v_goto (tgt := 53) dX19_isMove_49 (by decide) ?_
          first | exact v_reti dX19_isMove_53 rfl (Pu_i (b2c_t hz9).symm) | exact v_reti dX19_isMove_53 rfl (Pu_i (b2c_f hz9).symm)

theorem c_X19_isRight {G : Gv} {h : AH} {b nC sN : Nat} {A : Nat → Int32} {C : Nat → Nat → Int32} (hq : XQ_ h b A C nC sN 0) {T : Nat → Int32} {nR q r : Nat} (hRP : rp_ok T nR sN) (hrn : r < nR) (hE : CA_ h q T r) : Ctr G 5 yX19_isRight cX19_isRight 2 (some .boolean) [.ref q] h 0 0 (Pu h (.int (b2c (ri_ A T r)))) := by
  refine ctr_of (own := RX19) (nm := "isRight") (by decide) (Nat.le_of_ble_eq_true rfl) ?_
  have hq9 := hq
  obtain ⟨hX, hS, ⟨DC, cC, fC, hCA, hCE⟩, hv, hc⟩ := hq9
  have h39 := sv_s hv
  obtain ⟨⟨pn, hpn, e0⟩, ek, ⟨an, bn, hab, hbn, e4, e5⟩, ⟨dn, hdn, e6⟩⟩ := hRP.2 r hrn
  have hm40 := sv_mov hv
  obtain ⟨DM, cM, fM, hMA, hME⟩ := si_moves hS
  refine v_iconst (v := 0) dX19_isRight_0 (by decide) ?_
  refine v_istore_n dX19_isRight_1 rfl (by decide) ?_
  refine v_loc2 (by repeat' (first | exact trivial | refine And.intro ?_ ?_ | exact rfl)) (v_lp1 (fun (k : Nat) => nMov A - k) (fun (k : Nat) => k ≤ nMov A ∧ ∀ m, m < k → ¬ su_ A T m r 0) (fun (k : Nat) => [(0, .ref q), (1, .int (nI k))]) (fun _ => []) (fun (k : Nat) => h) ?_ 0 ⟨Nat.zero_le _, fun m hm => absurd hm (Nat.not_lt_zero _)⟩)
  intro k ⟨hk, hI⟩ IH
  refine v_iload_n dX19_isRight_2 rfl rfl ?_
  refine v_aload_n dX19_isRight_3 rfl rfl ?_
  refine v_getR fX19_3 dX19_isRight_4 hE.1 hE.2.2.2.2.1 ?_
  refine v_getR fX19_37 dX19_isRight_7 hX.1 hX.2.2.1 ?_
  refine v_getR fX19_41 dX19_isRight_10 (si_K hS) (si_Rmoves hS) ?_
  refine v_pV mtJ2_size q1325 q482 q483 rfl (by decide) dX19_isRight_13 (c_J2_size hMA) (hMA).1 (by first | decide | omega) ?_
  refine v_icmp_ge (tgt := 52) dX19_isRight_16 (by decide) (fun b16 => ?_) (fun b16 => ?_)
  · skip
    have hkn : nMov A ≤ k := (nI_leI (by omega) (by omega)).mp b16
    have hz9 : ¬ ri_ A T r := fun z => z.elim (fun y => y.2.elim (fun m y => hI m (by omega) y.2)) (fun y => y.1 hE.2.2.2.2.2)
    refine v_iconst (v := 0) dX19_isRight_52 (by decide) ?_
    first | exact v_reti dX19_isRight_53 rfl (Pu_i (b2c_t hz9).symm) | exact v_reti dX19_isRight_53 rfl (Pu_i (b2c_f hz9).symm)
  · skip
    have hkn : k < nMov A := Nat.lt_of_not_le (fun z => b16 ((nI_leI (by omega) (by omega)).mpr z))
    refine v_aload_n dX19_isRight_19 rfl rfl ?_
    refine v_aload_n dX19_isRight_20 rfl rfl ?_
    refine v_getR fX19_3 dX19_isRight_21 hE.1 hE.2.2.2.2.1 ?_
    refine v_getR fX19_37 dX19_isRight_24 hX.1 hX.2.2.1 ?_
    refine v_getR fX19_41 dX19_isRight_27 (si_K hS) (si_Rmoves hS) ?_
    refine v_iload_n dX19_isRight_30 rfl rfl ?_
    refine v_pV mtJ2_get q1326 q607 q608 rfl (by decide) dX19_isRight_31 (c_J2_get hMA rfl hkn) (hMA).1 (by first | decide | omega) ?_
    refine v_castS (hME _ hkn).1 (by decide) rfl q1327 dX19_isRight_34 ?_
    refine v_iconst (v := nI 0) dX19_isRight_37 (by decide) ?_
    refine v_pV mtX19_isMove q1328 q1330 qs43 rfl (by decide) dX19_isRight_38 (c_X19_isMove hE (hME _ hkn) _) hE.1 (by first | decide | omega) ?_
    refine v_if_eq (tgt := 46) dX19_isRight_41 (by decide) (fun b41 => ?_) (fun b41 => ?_)
    · skip
      have hnx := b2c_0.mp b41
      refine v_iinc dX19_isRight_46 rfl (by first | with_reducible exact nI_inc _ | exact rfl) (by decide) ?_
      refine v_goto (tgt := 2) dX19_isRight_49 (by decide) ?_
      exact v_loc2 (by repeat' (first | exact trivial | refine And.intro ?_ ?_ | exact rfl)) (IH (k + 1) ⟨hkn, fun m hm => (Nat.lt_succ_iff_lt_or_eq.mp hm).elim (hI m) (fun y => by rw [y]; exact hnx)⟩ (by omega))
    · skip
      have hz9 : ri_ A T r := Or.inl ⟨hE.2.2.2.2.2, k, hkn, b2c_n0.mp b41⟩
      refine v_iconst (v := 1) dX19_isRight_44 (by decide) ?_
      first | exact v_reti dX19_isRight_45 rfl (Pu_i (b2c_t hz9).symm) | exact v_reti dX19_isRight_45 rfl (Pu_i (b2c_f hz9).symm)

theorem c_X19_isHonest {G : Gv} {h : AH} {b nC sN : Nat} {A : Nat → Int32} {C : Nat → Nat → Int32} (hq : XQ_ h b A C nC sN 0) {T : Nat → Int32} {nR q r : Nat} (hRP : rp_ok T nR sN) (hrn : r < nR) (hE : CA_ h q T r) {lo sm : Int32} (hLS : LS_ h lo sm) : Ctr G 9 yX19_isHonest cX19_isHonest 2 (some .boolean) [.ref q] h 0 0 (Pu h (.int (b2c (ho_ A C T nC lo sm r)))) := by
  refine ctr_of (own := RX19) (nm := "isHonest") (by decide) (Nat.le_of_ble_eq_true rfl) ?_
  have hq9 := hq
  obtain ⟨hX, hS, ⟨DC, cC, fC, hCA, hCE⟩, hv, hc⟩ := hq9
  have h39 := sv_s hv
  obtain ⟨⟨pn, hpn, e0⟩, ek, ⟨an, bn, hab, hbn, e4, e5⟩, ⟨dn, hdn, e6⟩⟩ := hRP.2 r hrn
  have hm40 := sv_mov hv
  obtain ⟨DM, cM, fM, hMA, hME⟩ := si_moves hS
  refine v_iconst (v := 0) dX19_isHonest_0 (by decide) ?_
  refine v_istore_n dX19_isHonest_1 rfl (by decide) ?_
  refine v_loc2 (by repeat' (first | exact trivial | refine And.intro ?_ ?_ | exact rfl)) (v_lp1 (fun (k : Nat) => nMov A - k) (fun (k : Nat) => k ≤ nMov A ∧ ∀ m, m < k → ¬ (su_ A T m r (lo * T (7 * r + 6)) ∧ sw_ A C nC 0 m (T (7 * r)).toNatClampNeg)) (fun (k : Nat) => [(0, .ref q), (1, .int (nI k))]) (fun _ => []) (fun (k : Nat) => h) ?_ 0 ⟨Nat.zero_le _, fun m hm => absurd hm (Nat.not_lt_zero _)⟩)
  intro k ⟨hk, hI⟩ IH
  refine v_iload_n dX19_isHonest_2 rfl rfl ?_
  refine v_aload_n dX19_isHonest_3 rfl rfl ?_
  refine v_getR fX19_3 dX19_isHonest_4 hE.1 hE.2.2.2.2.1 ?_
  refine v_getR fX19_37 dX19_isHonest_7 hX.1 hX.2.2.1 ?_
  refine v_getR fX19_41 dX19_isHonest_10 (si_K hS) (si_Rmoves hS) ?_
  refine v_pV mtJ2_size q1325 q482 q483 rfl (by decide) dX19_isHonest_13 (c_J2_size hMA) (hMA).1 (by first | decide | omega) ?_
  refine v_icmp_ge (tgt := 94) dX19_isHonest_16 (by decide) (fun b16 => ?_) (fun b16 => ?_)
  · skip
    have hkn : nMov A ≤ k := (nI_leI (by omega) (by omega)).mp b16
    have hz9 : ¬ ho_ A C T nC lo sm r := fun z => z.elim (fun y => y.2.elim (fun m y => hI m (by omega) y.2)) (fun y => y.1 hE.2.2.2.2.2)
    refine v_iconst (v := 0) dX19_isHonest_94 (by decide) ?_
    first | exact v_reti dX19_isHonest_95 rfl (Pu_i (b2c_t hz9).symm) | exact v_reti dX19_isHonest_95 rfl (Pu_i (b2c_f hz9).symm)
  · skip
    have hkn : k < nMov A := Nat.lt_of_not_le (fun z => b16 ((nI_leI (by omega) (by omega)).mpr z))
    refine v_aload_n dX19_isHonest_19 rfl rfl ?_
    refine v_aload_n dX19_isHonest_20 rfl rfl ?_
    refine v_getR fX19_3 dX19_isHonest_21 hE.1 hE.2.2.2.2.1 ?_
    refine v_getR fX19_37 dX19_isHonest_24 hX.1 hX.2.2.1 ?_
    refine v_getR fX19_41 dX19_isHonest_27 (si_K hS) (si_Rmoves hS) ?_
    refine v_iload_n dX19_isHonest_30 rfl rfl ?_
    refine v_pV mtJ2_get q1326 q607 q608 rfl (by decide) dX19_isHonest_31 (c_J2_get hMA rfl hkn) (hMA).1 (by first | decide | omega) ?_
    refine v_castS (hME _ hkn).1 (by decide) rfl q1327 dX19_isHonest_34 ?_
    refine v_aload_n dX19_isHonest_37 rfl rfl ?_
    refine v_getR fX19_3 dX19_isHonest_38 hE.1 hE.2.2.2.2.1 ?_
    refine v_getI fX19_61 dX19_isHonest_41 hX.1 ?_
    rw [hLS.1]
    refine v_aload_n dX19_isHonest_44 rfl rfl ?_
    refine v_getI fX19_64 dX19_isHonest_45 hE.1 ?_
    rw [hE.2.1.2.2.2]
    refine v_imul dX19_isHonest_48 ?_
    refine v_pV mtX19_isMove q1328 q1330 qs43 rfl (by decide) dX19_isHonest_49 (c_X19_isMove hE (hME _ hkn) _) hE.1 (by first | decide | omega) ?_
    refine v_if_eq (tgt := 88) dX19_isHonest_52 (by decide) (fun b52 => ?_) (fun b52 => ?_)
    · skip
      have hnx : ¬ (su_ A T k r (lo * T (7 * r + 6)) ∧ sw_ A C nC 0 k (T (7 * r)).toNatClampNeg) := fun z => b2c_0.mp b52 z.1
      refine v_iinc dX19_isHonest_88 rfl (by first | with_reducible exact nI_inc _ | exact rfl) (by decide) ?_
      refine v_goto (tgt := 2) dX19_isHonest_91 (by decide) ?_
      exact v_loc2 (by repeat' (first | exact trivial | refine And.intro ?_ ?_ | exact rfl)) (IH (k + 1) ⟨hkn, fun m hm => (Nat.lt_succ_iff_lt_or_eq.mp hm).elim (hI m) (fun y => by rw [y]; exact hnx)⟩ (by omega))
    · skip
      refine v_aload_n dX19_isHonest_55 rfl rfl ?_
      refine v_getR fX19_3 dX19_isHonest_56 hE.1 hE.2.2.2.2.1 ?_
      refine v_aload_n dX19_isHonest_59 rfl rfl ?_
      refine v_getI fX19_67 dX19_isHonest_60 hE.1 ?_
      rw [hE.2.1.1, e0]
      refine v_aload_n dX19_isHonest_63 rfl rfl ?_
      refine v_getR fX19_3 dX19_isHonest_64 hE.1 hE.2.2.2.2.1 ?_
      refine v_getR fX19_37 dX19_isHonest_67 hX.1 hX.2.2.1 ?_
      refine v_getR fX19_41 dX19_isHonest_70 (si_K hS) (si_Rmoves hS) ?_
      refine v_iload_n dX19_isHonest_73 rfl rfl ?_
      refine v_pV mtJ2_get q1326 q607 q608 rfl (by decide) dX19_isHonest_74 (c_J2_get hMA rfl hkn) (hMA).1 (by first | decide | omega) ?_
      refine v_castS (hME _ hkn).1 (by decide) rfl q1327 dX19_isHonest_77 ?_
      refine v_pVN mtX0_sawIt (nw_m q1349 rfl) q779 qs20 rfl (by decide) dX19_isHonest_80 (c_X0_sawIt hq hpn hkn (hME _ hkn)) hX.1 (by first | decide | omega) ?_
      refine v_if_eq (tgt := 88) dX19_isHonest_83 (by decide) (fun b83 => ?_) (fun b83 => ?_)
      · skip
        have hnx : ¬ (su_ A T k r (lo * T (7 * r + 6)) ∧ sw_ A C nC 0 k (T (7 * r)).toNatClampNeg) := fun z => b2c_0.mp b83 (by rw [e0, nI_clamp (by omega)] at z; exact z.2)
        refine v_iinc dX19_isHonest_88 rfl (by first | with_reducible exact nI_inc _ | exact rfl) (by decide) ?_
        refine v_goto (tgt := 2) dX19_isHonest_91 (by decide) ?_
        exact v_loc2 (by repeat' (first | exact trivial | refine And.intro ?_ ?_ | exact rfl)) (IH (k + 1) ⟨hkn, fun m hm => (Nat.lt_succ_iff_lt_or_eq.mp hm).elim (hI m) (fun y => by rw [y]; exact hnx)⟩ (by omega))
      · skip
        have hz9 : ho_ A C T nC lo sm r := Or.inl ⟨hE.2.2.2.2.2, k, hkn, b2c_n0.mp b52, by rw [e0, nI_clamp (by omega)]; exact b2c_n0.mp b83⟩
        refine v_iconst (v := 1) dX19_isHonest_86 (by decide) ?_
        first | exact v_reti dX19_isHonest_87 rfl (Pu_i (b2c_t hz9).symm) | exact v_reti dX19_isHonest_87 rfl (Pu_i (b2c_f hz9).symm)

theorem c_X20_isIn {G : Gv} {h : AH} {q r b o B t : Nat} {T A : Nat → Int32} (hE : HE_ h q T r) (hS : SI_ h b A) (hB : (o = 14 ∧ B = 1070) ∨ (o = 33 ∧ B = 2870)) {pn : Nat} (hp : pn < 9) (e0 : T (7 * r) = nI pn) (ht : t < 100) : Ctr G 0 yX20_isIn cX20_isIn 3 (some .boolean) [.ref q, .ref (b + o), .int (nI t)] h 0 0 (Pu h (.int (b2c (ha_ A B pn (T (7 * r + 2)) t)))) := by
  refine ctr_of (own := RX20) (nm := "isIn") (by decide) (Nat.le_of_ble_eq_true rfl) ?_
  have hRK : hp_K h (b + o) = (104, 18) := by rcases hB with ⟨rfl, -⟩ | ⟨rfl, -⟩; exact si_seems hS; exact si_truly hS
  have hRV : ∀ p, p < 18 → va_rf (hp_R h (b + o) p) = .ref (b + o + 1 + p) := by rcases hB with ⟨rfl, -⟩ | ⟨rfl, -⟩; exact fun p hp => si_seemsV hS hp; exact fun p hp => si_trulyV hS hp
  have hRR : ∀ p, p < 18 → hp_K h (b + o + 1 + p) = (100, 100) := by rcases hB with ⟨rfl, -⟩ | ⟨rfl, -⟩; exact fun p hp => si_seemsK hS p hp; exact fun p hp => si_trulyK hS p hp
  have hRD : ∀ p, p < 18 → ∀ t, t < 100 → hp_I h (b + o + 1 + p) t = A (B + 100 * p + t) := by rcases hB with ⟨rfl, rfl⟩ | ⟨rfl, rfl⟩; exact si_Dseems hS; exact si_Dtruly hS
  have e200 : B + 200 * pn + t = B + 100 * (2 * pn) + t := by omega
  refine v_aload_n dX20_isIn_0 rfl rfl ?_
  refine v_iconst (v := 2) dX20_isIn_1 (by decide) ?_
  refine v_aload_n dX20_isIn_2 rfl rfl ?_
  refine v_getI fX20_17 dX20_isIn_3 hE.1 ?_
  rw [hE.2.1.1, e0]
  refine v_imul dX20_isIn_6 ?_
  refine v_aald (t := 4) dX20_isIn_7 hRK (by decide) (ix_mul (ix_lit _) rfl) (by first | assumption | omega) (hRV _ (by first | assumption | omega)) ?_ (by decide)
  refine v_iload_n dX20_isIn_8 rfl rfl ?_
  refine v_iald dX20_isIn_9 (hRR _ (by first | assumption | omega)) rfl (by first | assumption | omega) ?_
  rw [hRD _ (show 2 * pn < 18 by omega) _ ht]
  refine v_aload_n dX20_isIn_10 rfl rfl ?_
  refine v_getI fX20_13 dX20_isIn_11 hE.1 ?_
  rw [hE.2.2.1]
  refine v_icmp_eq (tgt := 36) dX20_isIn_14 (by decide) (fun b14 => ?_) (fun b14 => ?_)
  · skip
    have hz9 : ha_ A B pn (T (7 * r + 2)) t := Or.inl (by rw [e200]; exact b14)
    refine v_iconst (v := 1) dX20_isIn_36 (by decide) ?_
    refine v_goto (tgt := 41) dX20_isIn_37 (by decide) ?_
    first | exact v_reti dX20_isIn_41 rfl (Pu_i (b2c_t hz9).symm) | exact v_reti dX20_isIn_41 rfl (Pu_i (b2c_f hz9).symm)
  · skip
    refine v_aload_n dX20_isIn_17 rfl rfl ?_
    refine v_iconst (v := 2) dX20_isIn_18 (by decide) ?_
    refine v_aload_n dX20_isIn_19 rfl rfl ?_
    refine v_getI fX20_17 dX20_isIn_20 hE.1 ?_
    rw [hE.2.1.1, e0]
    refine v_imul dX20_isIn_23 ?_
    refine v_iconst (v := 1) dX20_isIn_24 (by decide) ?_
    refine v_iadd dX20_isIn_25 ?_
    refine v_aald (t := 4) dX20_isIn_26 hRK (by decide) (ix_add (ix_mul (ix_lit _) rfl) (ix_lit _)) (by first | assumption | omega) (hRV _ (by first | assumption | omega)) ?_ (by decide)
    refine v_iload_n dX20_isIn_27 rfl rfl ?_
    refine v_iald dX20_isIn_28 (hRR _ (by first | assumption | omega)) rfl (by first | assumption | omega) ?_
    rw [hRD _ (show 2 * pn + 1 < 18 by omega) _ ht]
    refine v_aload_n dX20_isIn_29 rfl rfl ?_
    refine v_getI fX20_13 dX20_isIn_30 hE.1 ?_
    rw [hE.2.2.1]
    refine v_icmp_ne (tgt := 40) dX20_isIn_33 (by decide) (fun b33 => ?_) (fun b33 => ?_)
    · skip
      have hz9 : ¬ ha_ A B pn (T (7 * r + 2)) t := fun z => z.elim (fun y => b14 (by rw [← e200]; exact y)) b33
      refine v_iconst (v := 0) dX20_isIn_40 (by decide) ?_
      first | exact v_reti dX20_isIn_41 rfl (Pu_i (b2c_t hz9).symm) | exact v_reti dX20_isIn_41 rfl (Pu_i (b2c_f hz9).symm)
    · skip
      have hz9 : ha_ A B pn (T (7 * r + 2)) t := Or.inr b33
      refine v_iconst (v := 1) dX20_isIn_36 (by decide) ?_
      refine v_goto (tgt := 41) dX20_isIn_37 (by decide) ?_
      first | exact v_reti dX20_isIn_41 rfl (Pu_i (b2c_t hz9).symm) | exact v_reti dX20_isIn_41 rfl (Pu_i (b2c_f hz9).symm)

theorem c_X20_isRight {G : Gv} {h : AH} {b nC sN : Nat} {A : Nat → Int32} {C : Nat → Nat → Int32} (hq : XQ_ h b A C nC sN 0) {T : Nat → Int32} {nR q r : Nat} (hRP : rp_ok T nR sN) (hrn : r < nR) (hE : HE_ h q T r) : Ctr G 5 yX20_isRight cX20_isRight 2 (some .boolean) [.ref q] h 0 0 (Pu h (.int (b2c (ri_ A T r)))) := by
  refine ctr_of (own := RX20) (nm := "isRight") (by decide) (Nat.le_of_ble_eq_true rfl) ?_
  have hq9 := hq
  obtain ⟨hX, hS, ⟨DC, cC, fC, hCA, hCE⟩, hv, hc⟩ := hq9
  have h39 := sv_s hv
  obtain ⟨⟨pn, hpn, e0⟩, ek, ⟨an, bn, hab, hbn, e4, e5⟩, ⟨dn, hdn, e6⟩⟩ := hRP.2 r hrn
  have ek1 : ¬ T (7 * r + 1) = 0 := by rw [hE.2.2.2.2]; decide
  have ea : (T (7 * r + 4)).toNatClampNeg = an := by rw [e4, nI_clamp (by omega)]
  have eb : (T (7 * r + 5)).toNatClampNeg = bn := by rw [e5, nI_clamp (by omega)]
  have ep : (T (7 * r)).toNatClampNeg = pn := by rw [e0, nI_clamp (by omega)]
  refine v_aload_n dX20_isRight_0 rfl rfl ?_
  refine v_getI fX20_20 dX20_isRight_1 hE.1 ?_
  rw [hE.2.1.2.1, e4]
  refine v_istore_n dX20_isRight_4 rfl (by decide) ?_
  refine v_loc2 (by repeat' (first | exact trivial | refine And.intro ?_ ?_ | exact rfl)) (v_lp1 (fun (k : Nat) => bn + 1 - k) (fun (k : Nat) => (an ≤ k ∧ k ≤ bn + 1) ∧ ∀ t, an ≤ t → t < k → ha_ A 2870 pn (T (7 * r + 2)) t) (fun (k : Nat) => [(0, .ref q), (1, .int (nI k))]) (fun _ => []) (fun (k : Nat) => h) ?_ an ⟨⟨Nat.le_refl _, by omega⟩, fun t h1 h2 => by omega⟩)
  intro k ⟨⟨hk1, hk2⟩, hI⟩ IH
  refine v_iload_n dX20_isRight_5 rfl rfl ?_
  refine v_aload_n dX20_isRight_6 rfl rfl ?_
  refine v_getI fX20_23 dX20_isRight_7 hE.1 ?_
  rw [hE.2.1.2.2.1, e5]
  refine v_icmp_gt (tgt := 39) dX20_isRight_10 (by decide) (fun b10 => ?_) (fun b10 => ?_)
  · skip
    rw [nI_ltI (by omega) (by omega)] at b10
    have hz9 : ri_ A T r := Or.inr ⟨ek1, fun t h1 h2 => by rw [ea] at h1; rw [eb] at h2; rw [ep]; exact hI t h1 (by omega)⟩
    refine v_iconst (v := 1) dX20_isRight_39 (by decide) ?_
    first | exact v_reti dX20_isRight_40 rfl (Pu_i (b2c_t hz9).symm) | exact v_reti dX20_isRight_40 rfl (Pu_i (b2c_f hz9).symm)
  · skip
    rw [nI_ltI (by omega) (by omega)] at b10
    refine v_aload_n dX20_isRight_13 rfl rfl ?_
    refine v_aload_n dX20_isRight_14 rfl rfl ?_
    refine v_getR fX20_1 dX20_isRight_15 hE.1 hE.2.2.2.1 ?_
    refine v_getR fX20_26 dX20_isRight_18 hX.1 hX.2.2.1 ?_
    refine v_getR fX20_32 dX20_isRight_21 (si_K hS) (si_Rtruly hS) ?_
    refine v_iload_n dX20_isRight_24 rfl rfl ?_
    refine v_pV mtX20_isIn q1335 q1337 qs44 rfl (by decide) dX20_isRight_25 (c_X20_isIn (t := k) (o := 33) (B := 2870) hE hS (Or.inr ⟨rfl, rfl⟩) (by omega) e0 (by omega)) hE.1 (by first | decide | omega) ?_
    refine v_if_ne (tgt := 33) dX20_isRight_28 (by decide) (fun b28 => ?_) (fun b28 => ?_)
    · skip
      have hnx := b2c_n0.mp b28
      refine v_iinc dX20_isRight_33 rfl (by first | with_reducible exact nI_inc _ | exact rfl) (by decide) ?_
      refine v_goto (tgt := 5) dX20_isRight_36 (by decide) ?_
      exact v_loc2 (by repeat' (first | exact trivial | refine And.intro ?_ ?_ | exact rfl)) (IH (k + 1) ⟨⟨by omega, by omega⟩, fun t h1 h2 => (Nat.lt_succ_iff_lt_or_eq.mp h2).elim (hI t h1) (fun y => by rw [y]; exact hnx)⟩ (by omega))
    · skip
      have hz9 : ¬ ri_ A T r := fun z => z.elim (fun y => ek1 y.1) (fun y => b2c_0.mp b28 (by have := y.2 k (by omega) (by omega); rw [ep] at this; exact this))
      refine v_iconst (v := 0) dX20_isRight_31 (by decide) ?_
      first | exact v_reti dX20_isRight_32 rfl (Pu_i (b2c_t hz9).symm) | exact v_reti dX20_isRight_32 rfl (Pu_i (b2c_f hz9).symm)

theorem c_X20_isHonest {G : Gv} {h : AH} {b nC sN : Nat} {A : Nat → Int32} {C : Nat → Nat → Int32} (hq : XQ_ h b A C nC sN 0) {T : Nat → Int32} {nR q r : Nat} (hRP : rp_ok T nR sN) (hrn : r < nR) (hE : HE_ h q T r) {lo sm : Int32} (hLS : LS_ h lo sm) : Ctr G 9 yX20_isHonest cX20_isHonest 3 (some .boolean) [.ref q] h 0 0 (Pu h (.int (b2c (ho_ A C T nC lo sm r)))) := by
  refine ctr_of (own := RX20) (nm := "isHonest") (by decide) (Nat.le_of_ble_eq_true rfl) ?_
  have hq9 := hq
  obtain ⟨hX, hS, ⟨DC, cC, fC, hCA, hCE⟩, hv, hc⟩ := hq9
  have h39 := sv_s hv
  obtain ⟨⟨pn, hpn, e0⟩, ek, ⟨an, bn, hab, hbn, e4, e5⟩, ⟨dn, hdn, e6⟩⟩ := hRP.2 r hrn
  have ek1 : ¬ T (7 * r + 1) = 0 := by rw [hE.2.2.2.2]; decide
  have ea : (T (7 * r + 4)).toNatClampNeg = an := by rw [e4, nI_clamp (by omega)]
  have eb : (T (7 * r + 5)).toNatClampNeg = bn := by rw [e5, nI_clamp (by omega)]
  have ep : (T (7 * r)).toNatClampNeg = pn := by rw [e0, nI_clamp (by omega)]
  refine v_iconst (v := 0) dX20_isHonest_0 (by decide) ?_
  refine v_istore_n dX20_isHonest_1 rfl (by decide) ?_
  refine v_aload_n dX20_isHonest_2 rfl rfl ?_
  refine v_getI fX20_20 dX20_isHonest_3 hE.1 ?_
  rw [hE.2.1.2.1, e4]
  refine v_istore_n dX20_isHonest_6 rfl (by decide) ?_
  refine v_loc2 (by repeat' (first | exact trivial | refine And.intro ?_ ?_ | exact rfl)) (v_lp1 (fun (k : Nat) => bn + 1 - an - k) (fun (k : Nat) => k ≤ bn + 1 - an ∧ ∀ n, n < k → nI (un_ (fun t => ha_ A 1070 pn (T (7 * r + 2)) t) an (n + 1)) ≤ sm * T (7 * r + 6)) (fun (k : Nat) => [(0, .ref q), (1, .int (nI (un_ (fun t => ha_ A 1070 pn (T (7 * r + 2)) t) an k))), (2, .int (nI (an + k)))]) (fun _ => []) (fun (k : Nat) => h) ?_ 0 ⟨Nat.zero_le _, fun m hm => absurd hm (Nat.not_lt_zero m)⟩)
  intro k ⟨hk, hI⟩ IH
  have hun := un_le (fun t => ha_ A 1070 pn (T (7 * r + 2)) t) an k
  refine v_iload_n dX20_isHonest_7 rfl rfl ?_
  refine v_aload_n dX20_isHonest_8 rfl rfl ?_
  refine v_getI fX20_23 dX20_isHonest_9 hE.1 ?_
  rw [hE.2.1.2.2.1, e5]
  refine v_icmp_gt (tgt := 65) dX20_isHonest_12 (by decide) (fun b12 => ?_) (fun b12 => ?_)
  · skip
    rw [nI_ltI (by omega) (by omega)] at b12
    have hz9 : ho_ A C T nC lo sm r := Or.inr ⟨ek1, fun n hn => by rw [ea, eb] at hn; rw [ep, ea]; exact hI n (by omega)⟩
    refine v_iconst (v := 1) dX20_isHonest_65 (by decide) ?_
    first | exact v_reti dX20_isHonest_66 rfl (Pu_i (b2c_t hz9).symm) | exact v_reti dX20_isHonest_66 rfl (Pu_i (b2c_f hz9).symm)
  · skip
    rw [nI_ltI (by omega) (by omega)] at b12
    refine v_join 40 (fun z => z = nI (un_ (fun t => ha_ A 1070 pn (T (7 * r + 2)) t) an (k + 1))) (fun z hz => ?_) (fun hj40 => ?_)
    · skip
      subst hz
      refine v_istore_n dX20_isHonest_40 rfl (by decide) ?_
      refine v_iload_n dX20_isHonest_41 rfl rfl ?_
      refine v_aload_n dX20_isHonest_42 rfl rfl ?_
      refine v_getR fX20_1 dX20_isHonest_43 hE.1 hE.2.2.2.1 ?_
      refine v_getI fX20_45 dX20_isHonest_46 hX.1 ?_
      rw [hLS.2]
      refine v_aload_n dX20_isHonest_49 rfl rfl ?_
      refine v_getI fX20_48 dX20_isHonest_50 hE.1 ?_
      rw [hE.2.1.2.2.2]
      refine v_imul dX20_isHonest_53 ?_
      refine v_icmp_le (tgt := 59) dX20_isHonest_54 (by decide) (fun b54 => ?_) (fun b54 => ?_)
      · skip
        have hnx := b54
        refine v_iinc dX20_isHonest_59 rfl (by first | with_reducible exact nI_inc _ | exact rfl) (by decide) ?_
        refine v_goto (tgt := 7) dX20_isHonest_62 (by decide) ?_
        exact v_loc2 (by repeat' (first | exact trivial | refine And.intro ?_ ?_ | exact rfl)) (IH (k + 1) ⟨by omega, fun n hn => (Nat.lt_succ_iff_lt_or_eq.mp hn).elim (hI n) (fun y => by rw [y]; exact hnx)⟩ (by omega))
      · skip
        have hz9 : ¬ ho_ A C T nC lo sm r := fun z => z.elim (fun y => ek1 y.1) (fun y => b54 (by have := y.2 k (by omega); rw [ep, ea] at this; exact this))
        refine v_iconst (v := 0) dX20_isHonest_57 (by decide) ?_
        first | exact v_reti dX20_isHonest_58 rfl (Pu_i (b2c_t hz9).symm) | exact v_reti dX20_isHonest_58 rfl (Pu_i (b2c_f hz9).symm)
    · skip
      refine v_aload_n dX20_isHonest_15 rfl rfl ?_
      refine v_aload_n dX20_isHonest_16 rfl rfl ?_
      refine v_getR fX20_1 dX20_isHonest_17 hE.1 hE.2.2.2.1 ?_
      refine v_getR fX20_26 dX20_isHonest_20 hX.1 hX.2.2.1 ?_
      refine v_getR fX20_42 dX20_isHonest_23 (si_K hS) (si_Rseems hS) ?_
      refine v_iload_n dX20_isHonest_26 rfl rfl ?_
      refine v_pV mtX20_isIn q1335 q1337 qs44 rfl (by decide) dX20_isHonest_27 (c_X20_isIn (t := an + k) (o := 14) (B := 1070) hE hS (Or.inl ⟨rfl, rfl⟩) (by omega) e0 (by omega)) hE.1 (by first | decide | omega) ?_
      refine v_if_eq (tgt := 37) dX20_isHonest_30 (by decide) (fun b30 => ?_) (fun b30 => ?_)
      · skip
        refine v_iload_n dX20_isHonest_37 rfl rfl ?_
        refine v_iconst (v := 1) dX20_isHonest_38 (by decide) ?_
        refine v_iadd dX20_isHonest_39 ?_
        rw [nI_1]
        exact hj40 _ (by rw [un_s]; first | exact congrArg nI (cf_t (b2c_n0.mp b30)).symm | exact congrArg nI (cf_f (b2c_0.mp b30)).symm)
      · skip
        refine v_iconst (v := 0) dX20_isHonest_33 (by decide) ?_
        refine v_goto (tgt := 40) dX20_isHonest_34 (by decide) ?_
        exact hj40 _ (by rw [un_s]; first | exact congrArg nI (cf_t (b2c_n0.mp b30)).symm | exact congrArg nI (cf_f (b2c_0.mp b30)).symm)

theorem c_X19_agrees {G : Gv} {h : AH} {q p r j : Nat} {T : Nat → Int32} (hN : gn_ok G) (hE : CA_ h q T r) (hO : RE_ h p T j) : Ctr G 0 yX19_agrees cX19_agrees 2 (some .boolean) [.ref q, .ref p] h 0 0 (Pu h (.int (b2c (ag_ T r j)))) := by
  refine ctr_of (own := RX19) (nm := "agrees") (by decide) (Nat.le_of_ble_eq_true rfl) ?_
  refine v_aload_n dX19_agrees_0 rfl rfl ?_
  rcases hO with hO | hO
  · skip
    refine v_instS hO.1 (by decide) rfl q1363 dX19_agrees_1 ?_
    refine v_if_eq (tgt := 61) dX19_agrees_4 (by decide) (fun b4 => ?_) (fun b4 => ?_)
    · skip
      exact absurd b4 (by decide)
    · skip
      refine v_aload_n dX19_agrees_7 rfl rfl ?_
      refine v_castS hO.1 (by decide) rfl q1363 dX19_agrees_8 ?_
      refine v_getI fX19_15 dX19_agrees_11 hO.1 ?_
      rw [hO.2.2.1]
      refine v_aload_n dX19_agrees_14 rfl rfl ?_
      refine v_getI fX19_15 dX19_agrees_15 hE.1 ?_
      rw [hE.2.2.1]
      refine v_icmp_ne (tgt := 61) dX19_agrees_18 (by decide) (fun b18 => ?_) (fun b18 => ?_)
      · skip
        have hz9 : ¬ ag_ T r j := fun z => b18 z.1.2.symm
        refine v_iconst (v := 0) dX19_agrees_61 (by decide) ?_
        first | exact v_reti dX19_agrees_62 rfl (Pu_i (b2c_t hz9).symm) | exact v_reti dX19_agrees_62 rfl (Pu_i (b2c_f hz9).symm)
      · skip
        refine v_aload_n dX19_agrees_21 rfl rfl ?_
        refine v_castS hO.1 (by decide) rfl q1363 dX19_agrees_22 ?_
        refine v_getI fX19_19 dX19_agrees_25 hO.1 ?_
        rw [hO.2.2.2.1]
        refine v_aload_n dX19_agrees_28 rfl rfl ?_
        refine v_getI fX19_19 dX19_agrees_29 hE.1 ?_
        rw [hE.2.2.2.1]
        refine v_icmp_ne (tgt := 61) dX19_agrees_32 (by decide) (fun b32 => ?_) (fun b32 => ?_)
        · skip
          have hz9 : ¬ ag_ T r j := fun z => z.2.elim (fun y : T (7 * r + 1) = 1 => absurd (hE.2.2.2.2.2.symm.trans y) (by decide)) (fun y => b32 y.1.symm)
          refine v_iconst (v := 0) dX19_agrees_61 (by decide) ?_
          first | exact v_reti dX19_agrees_62 rfl (Pu_i (b2c_t hz9).symm) | exact v_reti dX19_agrees_62 rfl (Pu_i (b2c_f hz9).symm)
        · skip
          refine v_aload_n dX19_agrees_35 rfl rfl ?_
          refine v_getI fX19_31 dX19_agrees_36 hE.1 ?_
          rw [hE.2.1.2.1]
          refine v_aload_n dX19_agrees_39 rfl rfl ?_
          refine v_getE (Or.inl hO) fX19_74_X19 fX19_74_X20 dX19_agrees_40 ?_
          rw [hO.2.1.2.2.1]
          refine v_icmp_gt (tgt := 61) dX19_agrees_43 (by decide) (fun b43 => ?_) (fun b43 => ?_)
          · skip
            have hz9 : ¬ ag_ T r j := fun z => z.2.elim (fun y : T (7 * r + 1) = 1 => absurd (hE.2.2.2.2.2.symm.trans y) (by decide)) (fun y => Int32.not_lt.mpr y.2.1 b43)
            refine v_iconst (v := 0) dX19_agrees_61 (by decide) ?_
            first | exact v_reti dX19_agrees_62 rfl (Pu_i (b2c_t hz9).symm) | exact v_reti dX19_agrees_62 rfl (Pu_i (b2c_f hz9).symm)
          · skip
            refine v_aload_n dX19_agrees_46 rfl rfl ?_
            refine v_getE (Or.inl hO) fX19_75_X19 fX19_75_X20 dX19_agrees_47 ?_
            rw [hO.2.1.2.1]
            refine v_aload_n dX19_agrees_50 rfl rfl ?_
            refine v_getI fX19_34 dX19_agrees_51 hE.1 ?_
            rw [hE.2.1.2.2.1]
            refine v_icmp_gt (tgt := 61) dX19_agrees_54 (by decide) (fun b54 => ?_) (fun b54 => ?_)
            · skip
              have hz9 : ¬ ag_ T r j := fun z => z.2.elim (fun y : T (7 * r + 1) = 1 => absurd (hE.2.2.2.2.2.symm.trans y) (by decide)) (fun y => Int32.not_lt.mpr y.2.2 b54)
              refine v_iconst (v := 0) dX19_agrees_61 (by decide) ?_
              first | exact v_reti dX19_agrees_62 rfl (Pu_i (b2c_t hz9).symm) | exact v_reti dX19_agrees_62 rfl (Pu_i (b2c_f hz9).symm)
            · skip
              have hz9 : ag_ T r j := ⟨⟨hE.2.2.2.2.2.trans hO.2.2.2.2.2.symm, b18.symm⟩, Or.inr ⟨b32.symm, Int32.not_lt.mp b43, Int32.not_lt.mp b54⟩⟩
              refine v_iconst (v := 1) dX19_agrees_57 (by decide) ?_
              refine v_goto (tgt := 62) dX19_agrees_58 (by decide) ?_
              first | exact v_reti dX19_agrees_62 rfl (Pu_i (b2c_t hz9).symm) | exact v_reti dX19_agrees_62 rfl (Pu_i (b2c_f hz9).symm)
  · skip
    have hz9 : ¬ ag_ T r j := fun z => by
      have := (hE.2.2.2.2.2.symm.trans z.1.1).trans hO.2.2.2.2
      exact absurd this (by decide)
    refine v_instNo hO.1 (by decide) rfl hN.1 q1363 dX19_agrees_1 ?_
    refine v_if_eq (tgt := 61) dX19_agrees_4 (by decide) (fun b4 => ?_) (fun b4 => ?_)
    · skip
      refine v_iconst (v := 0) dX19_agrees_61 (by decide) ?_
      first | exact v_reti dX19_agrees_62 rfl (Pu_i (b2c_t hz9).symm) | exact v_reti dX19_agrees_62 rfl (Pu_i (b2c_f hz9).symm)
    · skip
      exact absurd rfl b4

theorem c_X20_agrees {G : Gv} {h : AH} {q p r j : Nat} {T : Nat → Int32} (hN : gn_ok G) (hE : HE_ h q T r) (hO : RE_ h p T j) : Ctr G 0 yX20_agrees cX20_agrees 2 (some .boolean) [.ref q, .ref p] h 0 0 (Pu h (.int (b2c (ag_ T r j)))) := by
  refine ctr_of (own := RX20) (nm := "agrees") (by decide) (Nat.le_of_ble_eq_true rfl) ?_
  refine v_aload_n dX20_agrees_0 rfl rfl ?_
  rcases hO with hO | hO
  · skip
    have hz9 : ¬ ag_ T r j := fun z => by
      have := (hE.2.2.2.2.symm.trans z.1.1).trans hO.2.2.2.2.2
      exact absurd this (by decide)
    refine v_instNo hO.1 (by decide) rfl hN.2 q1367 dX20_agrees_1 ?_
    refine v_if_eq (tgt := 25) dX20_agrees_4 (by decide) (fun b4 => ?_) (fun b4 => ?_)
    · skip
      refine v_iconst (v := 0) dX20_agrees_25 (by decide) ?_
      first | exact v_reti dX20_agrees_26 rfl (Pu_i (b2c_t hz9).symm) | exact v_reti dX20_agrees_26 rfl (Pu_i (b2c_f hz9).symm)
    · skip
      exact absurd rfl b4
  · skip
    refine v_instS hO.1 (by decide) rfl q1367 dX20_agrees_1 ?_
    refine v_if_eq (tgt := 25) dX20_agrees_4 (by decide) (fun b4 => ?_) (fun b4 => ?_)
    · skip
      exact absurd b4 (by decide)
    · skip
      refine v_aload_n dX20_agrees_7 rfl rfl ?_
      refine v_castS hO.1 (by decide) rfl q1367 dX20_agrees_8 ?_
      refine v_getI fX20_13 dX20_agrees_11 hO.1 ?_
      rw [hO.2.2.1]
      refine v_aload_n dX20_agrees_14 rfl rfl ?_
      refine v_getI fX20_13 dX20_agrees_15 hE.1 ?_
      rw [hE.2.2.1]
      refine v_icmp_ne (tgt := 25) dX20_agrees_18 (by decide) (fun b18 => ?_) (fun b18 => ?_)
      · skip
        have hz9 : ¬ ag_ T r j := fun z => b18 z.1.2.symm
        refine v_iconst (v := 0) dX20_agrees_25 (by decide) ?_
        first | exact v_reti dX20_agrees_26 rfl (Pu_i (b2c_t hz9).symm) | exact v_reti dX20_agrees_26 rfl (Pu_i (b2c_f hz9).symm)
      · skip
        have hz9 : ag_ T r j := ⟨⟨hE.2.2.2.2.trans hO.2.2.2.2.symm, b18.symm⟩, Or.inl hE.2.2.2.2⟩
        refine v_iconst (v := 1) dX20_agrees_21 (by decide) ?_
        refine v_goto (tgt := 26) dX20_agrees_22 (by decide) ?_
        first | exact v_reti dX20_agrees_26 rfl (Pu_i (b2c_t hz9).symm) | exact v_reti dX20_agrees_26 rfl (Pu_i (b2c_f hz9).symm)

def yRp_isRight : MethodName := ⟨"RapTable$Report", "isRight", "()Z"⟩
theorem dl_yRp_isRight : dl_ yRp_isRight "RapTable$Report" := ⟨q1321, ⟨by decide, by decide⟩, .inl (nw_m q1320 rfl)⟩
def yRp_isHonest : MethodName := ⟨"RapTable$Report", "isHonest", "()Z"⟩
theorem dl_yRp_isHonest : dl_ yRp_isHonest "RapTable$Report" := ⟨q1345, ⟨by decide, by decide⟩, .inl (nw_m q1344 rfl)⟩
def yRp_agrees : MethodName := ⟨"RapTable$Report", "agrees", "(LRapTable$Report;)Z"⟩
theorem dl_yRp_agrees : dl_ yRp_agrees "RapTable$Report" := ⟨q1359, ⟨by decide, by decide⟩, .inl (nw_m q1358 rfl)⟩
theorem dp_isRight {G : Gv} {h : AH} {b nC sN : Nat} {A : Nat → Int32} {C : Nat → Nat → Int32} (hq : XQ_ h b A C nC sN 0) {T : Nat → Int32} {nR q r : Nat} (hRP : rp_ok T nR sN) (hrn : r < nR) (hRE : RE_ h q T r) : DP_ G 5 h q yRp_isRight (some .boolean) [] 0 0 0 (Pu h (.int (b2c (ri_ A T r)))) := by
  rcases hRE with hE | hE
  · have hK := hE.1
    exact ⟨19, "RapTable$Came", _, _, yX19_isRight, cX19_isRight, 2, hK, by decide, rfl, mtX19_isRight, rfl, q1322, q1323, c_X19_isRight hq hRP hrn hE⟩
  · have hK := hE.1
    exact ⟨20, "RapTable$Held", _, _, yX20_isRight, cX20_isRight, 2, hK, by decide, rfl, mtX20_isRight, rfl, q1332, q1333, c_X20_isRight hq hRP hrn hE⟩
theorem dp_isHonest {G : Gv} {h : AH} {b nC sN : Nat} {A : Nat → Int32} {C : Nat → Nat → Int32} (hq : XQ_ h b A C nC sN 0) {T : Nat → Int32} {nR q r : Nat} (hRP : rp_ok T nR sN) (hrn : r < nR) (hRE : RE_ h q T r) {lo sm : Int32} (hLS : LS_ h lo sm) : DP_ G 9 h q yRp_isHonest (some .boolean) [] 0 0 0 (Pu h (.int (b2c (ho_ A C T nC lo sm r)))) := by
  rcases hRE with hE | hE
  · have hK := hE.1
    exact ⟨19, "RapTable$Came", _, _, yX19_isHonest, cX19_isHonest, 2, hK, by decide, rfl, mtX19_isHonest, rfl, q1346, q1347, c_X19_isHonest hq hRP hrn hE hLS⟩
  · have hK := hE.1
    exact ⟨20, "RapTable$Held", _, _, yX20_isHonest, cX20_isHonest, 3, hK, by decide, rfl, mtX20_isHonest, rfl, q1350, q1351, c_X20_isHonest hq hRP hrn hE hLS⟩
theorem dp_agrees {G : Gv} {h : AH} {q p r j : Nat} {T : Nat → Int32} (hN : gn_ok G) (hRE : RE_ h q T r) (hO : RE_ h p T j) : DP_ G 0 h q yRp_agrees (some .boolean) [.ref p] 1 0 0 (Pu h (.int (b2c (ag_ T r j)))) := by
  rcases hRE with hE | hE
  · have hK := hE.1
    exact ⟨19, "RapTable$Came", _, _, yX19_agrees, cX19_agrees, 2, hK, by decide, rfl, mtX19_agrees, rfl, q1360, q1361, c_X19_agrees hN hE hO⟩
  · have hK := hE.1
    exact ⟨20, "RapTable$Held", _, _, yX20_agrees, cX20_agrees, 2, hK, by decide, rfl, mtX20_agrees, rfl, q1364, q1365, c_X20_agrees hN hE hO⟩
theorem c_X0_report2t {G : Gv} {h : AH} {b nC sN : Nat} {A : Nat → Int32} {C : Nat → Nat → Int32} (hq : XQ_ h b A C nC sN 0) {T : Nat → Int32} {nR : Nat} (hRP : rp_ok T nR sN) {DR cR : Nat} {fR : Nat → Nat} (hRA : AL_ h 96 DR cR nR fR) (hRE : ∀ r, r < nR → RE_ h (fR r) T r) {k : Nat} (hk : k < nR) : Ctr G 4 yX0_report_2 cX0_report_2 2 (some (.object "RapTable$Report")) [.ref 30, .int (nI k)] h 0 0 (Pu h (.ref (fR k))) := by
  refine ctr_of (own := RX0) (nm := "report") (by decide) (Nat.le_of_ble_eq_true rfl) ?_
  have hq9 := hq
  obtain ⟨hX, hS, ⟨DC, cC, fC, hCA, hCE⟩, hv, hc⟩ := hq9
  have h39 := sv_s hv
  have hR30 := hRP.1
  refine v_iload_n dX0_report_2_0 rfl rfl ?_
  refine v_i2l dX0_report_2_1 ?_
  refine v_lconst (v := (0 : Int32).toInt64) dX0_report_2_2 (by decide) ?_
  refine v_aload_n dX0_report_2_3 rfl rfl ?_
  refine v_getR fX0_68 dX0_report_2_4 hX.1 (xc_Rreports hX.2.2.2.2) ?_
  refine v_pV mtJ2_size q481 q482 q483 rfl (by decide) dX0_report_2_7 (c_J2_size hRA) (hRA).1 (by first | decide | omega) ?_
  refine v_iconst (v := 1) dX0_report_2_10 (by decide) ?_
  refine v_isub dX0_report_2_11 ?_
  refine v_i2l dX0_report_2_12 ?_
  refine v_pS mtX0_in q162 q163 dX0_report_2_13 (c_X0_in _ _ _) (by first | decide | omega) ?_
  refine v_if_eq (tgt := 33) dX0_report_2_16 (by decide) (fun b16 => ?_) (fun b16 => ?_)
  · skip
    rw [b2i_0] at b16
    exact absurd ((in_pred (by omega)).mpr ⟨Int32.not_lt.mp (nI_pos (by omega)), (nI_ltI (by omega) (by omega)).mpr hk⟩) b16
  · skip
    refine v_aload_n dX0_report_2_19 rfl rfl ?_
    refine v_getR fX0_68 dX0_report_2_20 hX.1 (xc_Rreports hX.2.2.2.2) ?_
    refine v_iload_n dX0_report_2_23 rfl rfl ?_
    refine v_pV mtJ2_get q621 q607 q608 rfl (by decide) dX0_report_2_24 (c_J2_get hRA rfl hk) (hRA).1 (by first | decide | omega) ?_
    refine v_castU (re_KO (hRE k hk)) q1318 dX0_report_2_27 ?_
    refine v_goto (tgt := 34) dX0_report_2_30 (by decide) ?_
    exact v_reta dX0_report_2_34 (Or.inl ⟨_, rfl⟩) Pu_r

theorem c_X0_report2f {G : Gv} {h : AH} {b nC sN : Nat} {A : Nat → Int32} {C : Nat → Nat → Int32} (hq : XQ_ h b A C nC sN 0) {T : Nat → Int32} {nR : Nat} (hRP : rp_ok T nR sN) {DR cR : Nat} {fR : Nat → Nat} (hRA : AL_ h 96 DR cR nR fR) (hRE : ∀ r, r < nR → RE_ h (fR r) T r) {x : Int32} (hx : ¬ (0 ≤ x ∧ x < nI nR)) : Ctr G 4 yX0_report_2 cX0_report_2 2 (some (.object "RapTable$Report")) [.ref 30, .int x] h 0 0 (Pu h .null) := by
  refine ctr_of (own := RX0) (nm := "report") (by decide) (Nat.le_of_ble_eq_true rfl) ?_
  have hq9 := hq
  obtain ⟨hX, hS, ⟨DC, cC, fC, hCA, hCE⟩, hv, hc⟩ := hq9
  have h39 := sv_s hv
  have hR30 := hRP.1
  refine v_iload_n dX0_report_2_0 rfl rfl ?_
  refine v_i2l dX0_report_2_1 ?_
  refine v_lconst (v := (0 : Int32).toInt64) dX0_report_2_2 (by decide) ?_
  refine v_aload_n dX0_report_2_3 rfl rfl ?_
  refine v_getR fX0_68 dX0_report_2_4 hX.1 (xc_Rreports hX.2.2.2.2) ?_
  refine v_pV mtJ2_size q481 q482 q483 rfl (by decide) dX0_report_2_7 (c_J2_size hRA) (hRA).1 (by first | decide | omega) ?_
  refine v_iconst (v := 1) dX0_report_2_10 (by decide) ?_
  refine v_isub dX0_report_2_11 ?_
  refine v_i2l dX0_report_2_12 ?_
  refine v_pS mtX0_in q162 q163 dX0_report_2_13 (c_X0_in _ _ _) (by first | decide | omega) ?_
  refine v_if_eq (tgt := 33) dX0_report_2_16 (by decide) (fun b16 => ?_) (fun b16 => ?_)
  · skip
    refine v_null dX0_report_2_33 ?_
    exact v_retN dX0_report_2_34 (Or.inl ⟨_, rfl⟩) Pu_r
  · skip
    rw [b2i_n0] at b16
    exact absurd ((in_pred (by omega)).mp b16) hx

theorem c_X0_camet {G : Gv} {h : AH} {b nC sN : Nat} {A : Nat → Int32} {C : Nat → Nat → Int32} (hq : XQ_ h b A C nC sN 0) {T : Nat → Int32} {nR : Nat} (hRP : rp_ok T nR sN) {DR cR : Nat} {fR : Nat → Nat} (hRA : AL_ h 96 DR cR nR fR) (hRE : ∀ r, r < nR → RE_ h (fR r) T r) {k : Nat} (hkn : k < nR) (h0 : T (7 * k + 1) = 0) : Ctr G 5 yX0_came cX0_came 2 (some (.object "RapTable$Came")) [.ref 30, .int (nI k)] h 0 0 (Pu h (.ref (fR k))) := by
  refine ctr_of (own := RX0) (nm := "came") (by decide) (Nat.le_of_ble_eq_true rfl) ?_
  have hq9 := hq
  obtain ⟨hX, hS, ⟨DC, cC, fC, hCA, hCE⟩, hv, hc⟩ := hq9
  have h39 := sv_s hv
  have hR30 := hRP.1
  have hE := (hRE k hkn).resolve_right (fun z => absurd (h0.symm.trans z.2.2.2.2) (by decide))
  refine v_aload_n dX0_came_0 rfl rfl ?_
  refine v_iload_n dX0_came_1 rfl rfl ?_
  refine v_pV mtX0_report_2 q1314 q1316 qs42 rfl (by decide) dX0_came_2 (c_X0_report2t hq hRP hRA hRE hkn) hX.1 (by first | decide | omega) ?_
  refine v_instS hE.1 (by decide) rfl q1235 dX0_came_5 ?_
  refine v_if_eq (tgt := 25) dX0_came_8 (by decide) (fun b8 => ?_) (fun b8 => ?_)
  · skip
    exact absurd b8 (by decide)
  · skip
    refine v_aload_n dX0_came_11 rfl rfl ?_
    refine v_getR fX0_68 dX0_came_12 hX.1 (xc_Rreports hX.2.2.2.2) ?_
    refine v_iload_n dX0_came_15 rfl rfl ?_
    refine v_pV mtJ2_get q621 q607 q608 rfl (by decide) dX0_came_16 (c_J2_get hRA rfl hkn) (hRA).1 (by first | decide | omega) ?_
    refine v_castS hE.1 (by decide) rfl q1235 dX0_came_19 ?_
    refine v_goto (tgt := 26) dX0_came_22 (by decide) ?_
    exact v_reta dX0_came_26 (Or.inl ⟨_, rfl⟩) Pu_r

theorem c_X0_camef {G : Gv} {h : AH} {b nC sN : Nat} {A : Nat → Int32} {C : Nat → Nat → Int32} (hq : XQ_ h b A C nC sN 0) {T : Nat → Int32} {nR : Nat} (hRP : rp_ok T nR sN) {DR cR : Nat} {fR : Nat → Nat} (hRA : AL_ h 96 DR cR nR fR) (hRE : ∀ r, r < nR → RE_ h (fR r) T r) (hN : gn_ok G) {x : Int32} (hx0 : ¬ ((0 ≤ x ∧ x < nI nR) ∧ T (7 * x.toNatClampNeg + 1) = 0)) : Ctr G 5 yX0_came cX0_came 2 (some (.object "RapTable$Came")) [.ref 30, .int x] h 0 0 (Pu h .null) := by
  refine ctr_of (own := RX0) (nm := "came") (by decide) (Nat.le_of_ble_eq_true rfl) ?_
  have hq9 := hq
  obtain ⟨hX, hS, ⟨DC, cC, fC, hCA, hCE⟩, hv, hc⟩ := hq9
  have h39 := sv_s hv
  have hR30 := hRP.1
  by_cases hx : 0 ≤ x ∧ x < nI nR
  · skip
    obtain ⟨k, hkn, rfl⟩ := nI_rng hx (by omega)
    have hE := (hRE k hkn).resolve_left (fun z => hx0 ⟨hx, by rw [nI_clamp (by omega)]; exact z.2.2.2.2.2⟩)
    refine v_aload_n dX0_came_0 rfl rfl ?_
    refine v_iload_n dX0_came_1 rfl rfl ?_
    refine v_pV mtX0_report_2 q1314 q1316 qs42 rfl (by decide) dX0_came_2 (c_X0_report2t hq hRP hRA hRE hkn) hX.1 (by first | decide | omega) ?_
    refine v_instNo hE.1 (by decide) rfl hN.1 q1235 dX0_came_5 ?_
    refine v_if_eq (tgt := 25) dX0_came_8 (by decide) (fun b8 => ?_) (fun b8 => ?_)
    · skip
      refine v_null dX0_came_25 ?_
      exact v_retN dX0_came_26 (Or.inl ⟨_, rfl⟩) Pu_r
    · skip
      exact absurd rfl b8
  · skip
    refine v_aload_n dX0_came_0 rfl rfl ?_
    refine v_iload_n dX0_came_1 rfl rfl ?_
    refine v_pV mtX0_report_2 q1314 q1316 qs42 rfl (by decide) dX0_came_2 (c_X0_report2f hq hRP hRA hRE hx) hX.1 (by first | decide | omega) ?_
    refine v_instN dX0_came_5 ?_
    refine v_if_eq (tgt := 25) dX0_came_8 (by decide) (fun b8 => ?_) (fun b8 => ?_)
    · skip
      refine v_null dX0_came_25 ?_
      exact v_retN dX0_came_26 (Or.inl ⟨_, rfl⟩) Pu_r
    · skip
      exact absurd rfl b8

noncomputable def an_right (A T : Nat → Int32) (nR : Nat) (x : Int32) : Int32 := cf_ (0 ≤ x ∧ x < nI nR) (b2c (ri_ A T x.toNatClampNeg)) (-1)
noncomputable def an_honest (A : Nat → Int32) (C : Nat → Nat → Int32) (T : Nat → Int32) (nC : Nat) (lo sm : Int32) (nR : Nat) (x : Int32) : Int32 := cf_ (0 ≤ x ∧ x < nI nR) (b2c (ho_ A C T nC lo sm x.toNatClampNeg)) (-1)
noncomputable def an_agree (T : Nat → Int32) (nR : Nat) (x y : Int32) : Int32 := cf_ ((0 ≤ x ∧ x < nI nR) ∧ (0 ≤ y ∧ y < nI nR) ∧ ¬ x = y) (b2c (ag_ T x.toNatClampNeg y.toNatClampNeg)) (-1)
theorem c_X0_right {G : Gv} {h : AH} {b nC sN : Nat} {A : Nat → Int32} {C : Nat → Nat → Int32} (hq : XQ_ h b A C nC sN 0) {T : Nat → Int32} {nR : Nat} (hRP : rp_ok T nR sN) {DR cR : Nat} {fR : Nat → Nat} (hRA : AL_ h 96 DR cR nR fR) (hRE : ∀ r, r < nR → RE_ h (fR r) T r) (x : Int32) : Ctr G 7 yX0_right cX0_right 2 (some .int) [.ref 30, .int x] h 0 0 (Pu h (.int (an_right A T nR x))) := by
  refine ctr_of (own := RX0) (nm := "right") (by decide) (Nat.le_of_ble_eq_true rfl) ?_
  have hq9 := hq
  obtain ⟨hX, hS, ⟨DC, cC, fC, hCA, hCE⟩, hv, hc⟩ := hq9
  have h39 := sv_s hv
  have hR30 := hRP.1
  by_cases hx : 0 ≤ x ∧ x < nI nR
  · skip
    obtain ⟨k, hkn, rfl⟩ := nI_rng hx (by omega)
    refine v_aload_n dX0_right_0 rfl rfl ?_
    refine v_iload_n dX0_right_1 rfl rfl ?_
    refine v_pV mtX0_report_2 q1314 q1316 qs42 rfl (by decide) dX0_right_2 (c_X0_report2t hq hRP hRA hRE hkn) hX.1 (by first | decide | omega) ?_
    refine v_ifnonnull (tgt := 12) dX0_right_5 (by decide) ?_
    refine v_aload_n dX0_right_12 rfl rfl ?_
    refine v_iload_n dX0_right_13 rfl rfl ?_
    refine v_pV mtX0_report_2 q1314 q1316 qs42 rfl (by decide) dX0_right_14 (c_X0_report2t hq hRP hRA hRE hkn) hX.1 (by first | decide | omega) ?_
    refine v_pU dl_yRp_isRight q1319 dX0_right_17 (dp_isRight hq hRP hkn (hRE k hkn)) (by first | decide | omega) ?_
    refine v_if_eq (tgt := 27) dX0_right_20 (by decide) (fun b20 => ?_) (fun b20 => ?_)
    · skip
      refine v_iconst (v := 0) dX0_right_27 (by decide) ?_
      refine v_reti dX0_right_28 rfl (Pu_i ?_)
      unfold an_right
      first | (rw [cf_f hx]) | (rw [cf_t hx, nI_clamp (by omega)]; first | exact (b2c_t (b2c_n0.mp b20)).symm | exact (b2c_f (b2c_0.mp b20)).symm)
    · skip
      refine v_iconst (v := 1) dX0_right_23 (by decide) ?_
      refine v_goto (tgt := 28) dX0_right_24 (by decide) ?_
      refine v_reti dX0_right_28 rfl (Pu_i ?_)
      unfold an_right
      first | (rw [cf_f hx]) | (rw [cf_t hx, nI_clamp (by omega)]; first | exact (b2c_t (b2c_n0.mp b20)).symm | exact (b2c_f (b2c_0.mp b20)).symm)
  · skip
    refine v_aload_n dX0_right_0 rfl rfl ?_
    refine v_iload_n dX0_right_1 rfl rfl ?_
    refine v_pV mtX0_report_2 q1314 q1316 qs42 rfl (by decide) dX0_right_2 (c_X0_report2f hq hRP hRA hRE hx) hX.1 (by first | decide | omega) ?_
    refine v_ifnonnullN dX0_right_5 ?_
    refine v_iconst (v := (-1)) dX0_right_8 (by decide) ?_
    refine v_goto (tgt := 28) dX0_right_9 (by decide) ?_
    refine v_reti dX0_right_28 rfl (Pu_i ?_)
    unfold an_right
    first | (rw [cf_f hx]) | (rw [cf_t hx, nI_clamp (by omega)]; first | exact (b2c_t (b2c_n0.mp b20)).symm | exact (b2c_f (b2c_0.mp b20)).symm)

theorem c_X0_honest {G : Gv} {h : AH} {b nC sN : Nat} {A : Nat → Int32} {C : Nat → Nat → Int32} (hq : XQ_ h b A C nC sN 0) {T : Nat → Int32} {nR : Nat} (hRP : rp_ok T nR sN) {DR cR : Nat} {fR : Nat → Nat} (hRA : AL_ h 96 DR cR nR fR) (hRE : ∀ r, r < nR → RE_ h (fR r) T r) {lo sm : Int32} (hLS : LS_ h lo sm) (x : Int32) : Ctr G 10 yX0_honest cX0_honest 2 (some .int) [.ref 30, .int x] h 0 0 (Pu h (.int (an_honest A C T nC lo sm nR x))) := by
  refine ctr_of (own := RX0) (nm := "honest") (by decide) (Nat.le_of_ble_eq_true rfl) ?_
  have hq9 := hq
  obtain ⟨hX, hS, ⟨DC, cC, fC, hCA, hCE⟩, hv, hc⟩ := hq9
  have h39 := sv_s hv
  have hR30 := hRP.1
  by_cases hx : 0 ≤ x ∧ x < nI nR
  · skip
    obtain ⟨k, hkn, rfl⟩ := nI_rng hx (by omega)
    refine v_aload_n dX0_honest_0 rfl rfl ?_
    refine v_iload_n dX0_honest_1 rfl rfl ?_
    refine v_pV mtX0_report_2 q1314 q1316 qs42 rfl (by decide) dX0_honest_2 (c_X0_report2t hq hRP hRA hRE hkn) hX.1 (by first | decide | omega) ?_
    refine v_ifnonnull (tgt := 12) dX0_honest_5 (by decide) ?_
    refine v_aload_n dX0_honest_12 rfl rfl ?_
    refine v_iload_n dX0_honest_13 rfl rfl ?_
    refine v_pV mtX0_report_2 q1314 q1316 qs42 rfl (by decide) dX0_honest_14 (c_X0_report2t hq hRP hRA hRE hkn) hX.1 (by first | decide | omega) ?_
    refine v_pU dl_yRp_isHonest q1343 dX0_honest_17 (dp_isHonest hq hRP hkn (hRE k hkn) hLS) (by first | decide | omega) ?_
    refine v_if_eq (tgt := 27) dX0_honest_20 (by decide) (fun b20 => ?_) (fun b20 => ?_)
    · skip
      refine v_iconst (v := 0) dX0_honest_27 (by decide) ?_
      refine v_reti dX0_honest_28 rfl (Pu_i ?_)
      unfold an_honest
      first | (rw [cf_f hx]) | (rw [cf_t hx, nI_clamp (by omega)]; first | exact (b2c_t (b2c_n0.mp b20)).symm | exact (b2c_f (b2c_0.mp b20)).symm)
    · skip
      refine v_iconst (v := 1) dX0_honest_23 (by decide) ?_
      refine v_goto (tgt := 28) dX0_honest_24 (by decide) ?_
      refine v_reti dX0_honest_28 rfl (Pu_i ?_)
      unfold an_honest
      first | (rw [cf_f hx]) | (rw [cf_t hx, nI_clamp (by omega)]; first | exact (b2c_t (b2c_n0.mp b20)).symm | exact (b2c_f (b2c_0.mp b20)).symm)
  · skip
    refine v_aload_n dX0_honest_0 rfl rfl ?_
    refine v_iload_n dX0_honest_1 rfl rfl ?_
    refine v_pV mtX0_report_2 q1314 q1316 qs42 rfl (by decide) dX0_honest_2 (c_X0_report2f hq hRP hRA hRE hx) hX.1 (by first | decide | omega) ?_
    refine v_ifnonnullN dX0_honest_5 ?_
    refine v_iconst (v := (-1)) dX0_honest_8 (by decide) ?_
    refine v_goto (tgt := 28) dX0_honest_9 (by decide) ?_
    refine v_reti dX0_honest_28 rfl (Pu_i ?_)
    unfold an_honest
    first | (rw [cf_f hx]) | (rw [cf_t hx, nI_clamp (by omega)]; first | exact (b2c_t (b2c_n0.mp b20)).symm | exact (b2c_f (b2c_0.mp b20)).symm)

theorem c_X0_agree {G : Gv} {h : AH} {b nC sN : Nat} {A : Nat → Int32} {C : Nat → Nat → Int32} (hq : XQ_ h b A C nC sN 0) {T : Nat → Int32} {nR : Nat} (hRP : rp_ok T nR sN) {DR cR : Nat} {fR : Nat → Nat} (hRA : AL_ h 96 DR cR nR fR) (hRE : ∀ r, r < nR → RE_ h (fR r) T r) (hN : gn_ok G) (x y : Int32) : Ctr G 5 yX0_agree cX0_agree 3 (some .int) [.ref 30, .int x, .int y] h 0 0 (Pu h (.int (an_agree T nR x y))) := by
  refine ctr_of (own := RX0) (nm := "agree") (by decide) (Nat.le_of_ble_eq_true rfl) ?_
  have hq9 := hq
  obtain ⟨hX, hS, ⟨DC, cC, fC, hCA, hCE⟩, hv, hc⟩ := hq9
  have h39 := sv_s hv
  have hR30 := hRP.1
  by_cases hx : 0 ≤ x ∧ x < nI nR
  · skip
    obtain ⟨k, hkn, rfl⟩ := nI_rng hx (by omega)
    refine v_aload_n dX0_agree_0 rfl rfl ?_
    refine v_iload_n dX0_agree_1 rfl rfl ?_
    refine v_pV mtX0_report_2 q1314 q1316 qs42 rfl (by decide) dX0_agree_2 (c_X0_report2t hq hRP hRA hRE hkn) hX.1 (by first | decide | omega) ?_
    refine v_ifnull dX0_agree_5 ?_
    by_cases hy : 0 ≤ y ∧ y < nI nR
    · skip
      obtain ⟨j, hjn, rfl⟩ := nI_rng hy (by omega)
      refine v_aload_n dX0_agree_8 rfl rfl ?_
      refine v_iload_n dX0_agree_9 rfl rfl ?_
      refine v_pV mtX0_report_2 q1314 q1316 qs42 rfl (by decide) dX0_agree_10 (c_X0_report2t hq hRP hRA hRE hjn) hX.1 (by first | decide | omega) ?_
      refine v_ifnull dX0_agree_13 ?_
      refine v_iload_n dX0_agree_16 rfl rfl ?_
      refine v_iload_n dX0_agree_17 rfl rfl ?_
      refine v_icmp_ne (tgt := 23) dX0_agree_18 (by decide) (fun b18 => ?_) (fun b18 => ?_)
      · skip
        refine v_aload_n dX0_agree_23 rfl rfl ?_
        refine v_iload_n dX0_agree_24 rfl rfl ?_
        refine v_pV mtX0_report_2 q1314 q1316 qs42 rfl (by decide) dX0_agree_25 (c_X0_report2t hq hRP hRA hRE hkn) hX.1 (by first | decide | omega) ?_
        refine v_aload_n dX0_agree_28 rfl rfl ?_
        refine v_iload_n dX0_agree_29 rfl rfl ?_
        refine v_pV mtX0_report_2 q1314 q1316 qs42 rfl (by decide) dX0_agree_30 (c_X0_report2t hq hRP hRA hRE hjn) hX.1 (by first | decide | omega) ?_
        refine v_pU dl_yRp_agrees q1357 dX0_agree_33 (dp_agrees hN (hRE k hkn) (hRE j hjn)) (by first | decide | omega) ?_
        refine v_if_eq (tgt := 43) dX0_agree_36 (by decide) (fun b36 => ?_) (fun b36 => ?_)
        · skip
          refine v_iconst (v := 0) dX0_agree_43 (by decide) ?_
          refine v_reti dX0_agree_44 rfl (Pu_i ?_)
          unfold an_agree
          rw [cf_t ⟨hx, hy, b18⟩, nI_clamp (by omega), nI_clamp (by omega)]
          first | exact (b2c_t (b2c_n0.mp b36)).symm | exact (b2c_f (b2c_0.mp b36)).symm
        · skip
          refine v_iconst (v := 1) dX0_agree_39 (by decide) ?_
          refine v_goto (tgt := 44) dX0_agree_40 (by decide) ?_
          refine v_reti dX0_agree_44 rfl (Pu_i ?_)
          unfold an_agree
          rw [cf_t ⟨hx, hy, b18⟩, nI_clamp (by omega), nI_clamp (by omega)]
          first | exact (b2c_t (b2c_n0.mp b36)).symm | exact (b2c_f (b2c_0.mp b36)).symm
      · skip
        refine v_iconst (v := (-1)) dX0_agree_21 (by decide) ?_
        refine v_reti dX0_agree_22 rfl (Pu_i ?_)
        unfold an_agree
        first | rw [cf_f (fun z => hx z.1)] | rw [cf_f (fun z => hy z.2.1)] | rw [cf_f (fun z => z.2.2 b18)]
    · skip
      refine v_aload_n dX0_agree_8 rfl rfl ?_
      refine v_iload_n dX0_agree_9 rfl rfl ?_
      refine v_pV mtX0_report_2 q1314 q1316 qs42 rfl (by decide) dX0_agree_10 (c_X0_report2f hq hRP hRA hRE hy) hX.1 (by first | decide | omega) ?_
      refine v_ifnullN (tgt := 21) dX0_agree_13 (by decide) ?_
      refine v_iconst (v := (-1)) dX0_agree_21 (by decide) ?_
      refine v_reti dX0_agree_22 rfl (Pu_i ?_)
      unfold an_agree
      first | rw [cf_f (fun z => hx z.1)] | rw [cf_f (fun z => hy z.2.1)] | rw [cf_f (fun z => z.2.2 b18)]
  · skip
    refine v_aload_n dX0_agree_0 rfl rfl ?_
    refine v_iload_n dX0_agree_1 rfl rfl ?_
    refine v_pV mtX0_report_2 q1314 q1316 qs42 rfl (by decide) dX0_agree_2 (c_X0_report2f hq hRP hRA hRE hx) hX.1 (by first | decide | omega) ?_
    refine v_ifnullN (tgt := 21) dX0_agree_5 (by decide) ?_
    refine v_iconst (v := (-1)) dX0_agree_21 (by decide) ?_
    refine v_reti dX0_agree_22 rfl (Pu_i ?_)
    unfold an_agree
    first | rw [cf_f (fun z => hx z.1)] | rw [cf_f (fun z => hy z.2.1)] | rw [cf_f (fun z => z.2.2 b18)]

def rda_ (A : Nat → Int32) (C : Nat → Nat → Int32) (T : Nat → Int32) (nC : Nat) (lo sm p x : Int32) (r : Nat) : Prop := T (7 * r) = p ∧ (x = 0 ∨ (x = 1 ∧ ri_ A T r) ∨ (x = 2 ∧ ho_ A C T nC lo sm r) ∨ (x = 3 ∧ ri_ A T r ∧ ¬ ho_ A C T nC lo sm r) ∨ (x = 4 ∧ ho_ A C T nC lo sm r ∧ ¬ ri_ A T r))
noncomputable def an_record (A : Nat → Int32) (C : Nat → Nat → Int32) (T : Nat → Int32) (nC sN : Nat) (lo sm : Int32) (nR : Nat) (p x : Int32) : Int32 := cf_ ((0 ≤ p ∧ p < nI sN) ∧ (0 ≤ x ∧ x ≤ 4)) (nI (gc_ (rda_ A C T nC lo sm p x) nR)) (-1)
set_option maxHeartbeats 1000000 in
theorem c_X0_record {G : Gv} {h : AH} {b nC sN : Nat} {A : Nat → Int32} {C : Nat → Nat → Int32} (hq : XQ_ h b A C nC sN 0) {T : Nat → Int32} {nR : Nat} (hRP : rp_ok T nR sN) {DR cR : Nat} {fR : Nat → Nat} (hRA : AL_ h 96 DR cR nR fR) (hRE : ∀ r, r < nR → RE_ h (fR r) T r) {lo sm : Int32} (hLS : LS_ h lo sm) (p x : Int32) : Ctr G 10 yX0_record cX0_record 8 (some .int) [.ref 30, .int p, .int x] h 0 0 (Pu h (.int (an_record A C T nC sN lo sm nR p x))) := by
  refine ctr_of (own := RX0) (nm := "record") (by decide) (Nat.le_of_ble_eq_true rfl) ?_
  have hq9 := hq
  obtain ⟨hX, hS, ⟨DC, cC, fC, hCA, hCE⟩, hv, hc⟩ := hq9
  have h39 := sv_s hv
  have hR30 := hRP.1
  refine v_cut 22 ((0 ≤ p ∧ p < nI sN) ∧ (0 ≤ x ∧ x ≤ 4)) (fun hz22 => ?_) (fun hc22 => ?_)
  · skip
    refine v_iconst (v := 0) dX0_record_22 (by decide) ?_
    refine v_istore_n dX0_record_23 rfl (by decide) ?_
    refine v_iconst (v := 0) dX0_record_24 (by decide) ?_
    refine v_istore dX0_record_25 (by decide) ?_
    refine v_loc2 (by repeat' (first | exact trivial | refine And.intro ?_ ?_ | exact rfl)) (v_lp1 (fun (k : Nat) => nR - k) (fun (k : Nat) => k ≤ nR) (fun (k : Nat) => [(0, .ref 30), (1, .int p), (2, .int x), (3, .int (nI (gc_ (rda_ A C T nC lo sm p x) k))), (4, .int (nI k))]) (fun _ => []) (fun (k : Nat) => h) ?_ 0 (Nat.zero_le _))
    intro k hk IH
    have hg9 := gc_le (rda_ A C T nC lo sm p x) k
    refine v_iload dX0_record_27 rfl ?_
    refine v_aload_n dX0_record_29 rfl rfl ?_
    refine v_getR fX0_68 dX0_record_30 hX.1 (xc_Rreports hX.2.2.2.2) ?_
    refine v_pV mtJ2_size q481 q482 q483 rfl (by decide) dX0_record_33 (c_J2_size hRA) (hRA).1 (by first | decide | omega) ?_
    refine v_icmp_ge (tgt := 147) dX0_record_36 (by decide) (fun b36 => ?_) (fun b36 => ?_)
    · skip
      have hkn : nR ≤ k := (nI_leI (by omega) (by omega)).mp b36
      obtain rfl : k = nR := by omega
      refine v_iload_n dX0_record_147 rfl rfl ?_
      exact v_reti dX0_record_148 rfl (Pu_i (by unfold an_record; rw [cf_t hz22]))
    · skip
      have hkn : k < nR := Nat.lt_of_not_le (fun z => b36 ((nI_leI (by omega) (by omega)).mpr z))
      refine v_aload_n dX0_record_39 rfl rfl ?_
      refine v_getR fX0_68 dX0_record_40 hX.1 (xc_Rreports hX.2.2.2.2) ?_
      refine v_iload dX0_record_43 rfl ?_
      refine v_pV mtJ2_get q621 q607 q608 rfl (by decide) dX0_record_45 (c_J2_get hRA rfl hkn) (hRA).1 (by first | decide | omega) ?_
      refine v_castU (re_KO (hRE k hkn)) q1318 dX0_record_48 ?_
      refine v_astore dX0_record_51 (by decide) ?_
      refine v_aload dX0_record_53 rfl ?_
      refine v_getE (hRE k hkn) fX0_419_X19 fX0_419_X20 dX0_record_55 ?_
      rw [(re_e (hRE k hkn)).1]
      refine v_iload_n dX0_record_58 rfl rfl ?_
      refine v_icmp_eq (tgt := 65) dX0_record_59 (by decide) (fun b59 => ?_) (fun b59 => ?_)
      · skip
        refine v_aload dX0_record_65 rfl ?_
        refine v_pU dl_yRp_isRight q1319 dX0_record_67 (dp_isRight hq hRP hkn (hRE k hkn)) (by first | decide | omega) ?_
        refine v_istore dX0_record_70 (by decide) ?_
        refine v_aload dX0_record_72 rfl ?_
        refine v_pU dl_yRp_isHonest q1343 dX0_record_74 (dp_isHonest hq hRP hkn (hRE k hkn) hLS) (by first | decide | omega) ?_
        refine v_istore dX0_record_77 (by decide) ?_
        refine v_iload_n dX0_record_79 rfl rfl ?_
        refine v_join 139 (fun z => z = b2c (x = 0 ∨ (x = 1 ∧ ri_ A T k) ∨ (x = 2 ∧ ho_ A C T nC lo sm k) ∨ (x = 3 ∧ ri_ A T k ∧ ¬ ho_ A C T nC lo sm k) ∨ (x = 4 ∧ ho_ A C T nC lo sm k ∧ ¬ ri_ A T k))) (fun z hz => ?_) (fun hj139 => ?_)
        · skip
          subst hz
          have hgc : nI (gc_ (rda_ A C T nC lo sm p x) k) + b2c (x = 0 ∨ (x = 1 ∧ ri_ A T k) ∨ (x = 2 ∧ ho_ A C T nC lo sm k) ∨ (x = 3 ∧ ri_ A T k ∧ ¬ ho_ A C T nC lo sm k) ∨ (x = 4 ∧ ho_ A C T nC lo sm k ∧ ¬ ri_ A T k)) = nI (gc_ (rda_ A C T nC lo sm p x) (k + 1)) := by rw [← gc_a, show b2c (x = 0 ∨ (x = 1 ∧ ri_ A T k) ∨ (x = 2 ∧ ho_ A C T nC lo sm k) ∨ (x = 3 ∧ ri_ A T k ∧ ¬ ho_ A C T nC lo sm k) ∨ (x = 4 ∧ ho_ A C T nC lo sm k ∧ ¬ ri_ A T k)) = b2c ((rda_ A C T nC lo sm p x) k) from b2c_c ⟨fun z => ⟨b59, z⟩, fun z => z.2⟩]
          refine v_iadd dX0_record_139 ?_
          rw [hgc]
          refine v_istore_n dX0_record_140 rfl (by decide) ?_
          refine v_iinc dX0_record_141 rfl (by first | with_reducible exact nI_inc _ | exact rfl) (by decide) ?_
          refine v_goto (tgt := 27) dX0_record_144 (by decide) ?_
          exact v_loc2 (by repeat' (first | exact trivial | refine And.intro ?_ ?_ | exact rfl)) (IH (k + 1) hkn (by omega))
        · skip
          refine v_iload_n dX0_record_80 rfl rfl ?_
          refine v_if_eq (tgt := 134) dX0_record_81 (by decide) (fun b81 => ?_) (fun b81 => ?_)
          · skip
            refine v_iconst (v := 1) dX0_record_134 (by decide) ?_
            refine v_goto (tgt := 139) dX0_record_135 (by decide) ?_
            exact hj139 _ (by (try simp only [b2c_0, b2c_n0] at *); first | exact (b2c_t (by grind)).symm | exact (b2c_f (by grind)).symm)
          · skip
            refine v_iload_n dX0_record_84 rfl rfl ?_
            refine v_iconst (v := 1) dX0_record_85 (by decide) ?_
            refine v_icmp_ne (tgt := 94) dX0_record_86 (by decide) (fun b86 => ?_) (fun b86 => ?_)
            · skip
              refine v_iload_n dX0_record_94 rfl rfl ?_
              refine v_iconst (v := 2) dX0_record_95 (by decide) ?_
              refine v_icmp_ne (tgt := 104) dX0_record_96 (by decide) (fun b96 => ?_) (fun b96 => ?_)
              · skip
                refine v_iload_n dX0_record_104 rfl rfl ?_
                refine v_iconst (v := 3) dX0_record_105 (by decide) ?_
                refine v_icmp_ne (tgt := 119) dX0_record_106 (by decide) (fun b106 => ?_) (fun b106 => ?_)
                · skip
                  refine v_iload_n dX0_record_119 rfl rfl ?_
                  refine v_iconst (v := 4) dX0_record_120 (by decide) ?_
                  refine v_icmp_ne (tgt := 138) dX0_record_121 (by decide) (fun b121 => ?_) (fun b121 => ?_)
                  · skip
                    refine v_iconst (v := 0) dX0_record_138 (by decide) ?_
                    exact hj139 _ (by (try simp only [b2c_0, b2c_n0] at *); first | exact (b2c_t (by grind)).symm | exact (b2c_f (by grind)).symm)
                  · skip
                    refine v_iload dX0_record_124 rfl ?_
                    refine v_if_eq (tgt := 138) dX0_record_126 (by decide) (fun b126 => ?_) (fun b126 => ?_)
                    · skip
                      refine v_iconst (v := 0) dX0_record_138 (by decide) ?_
                      exact hj139 _ (by (try simp only [b2c_0, b2c_n0] at *); first | exact (b2c_t (by grind)).symm | exact (b2c_f (by grind)).symm)
                    · skip
                      refine v_iload dX0_record_129 rfl ?_
                      refine v_if_ne (tgt := 138) dX0_record_131 (by decide) (fun b131 => ?_) (fun b131 => ?_)
                      · skip
                        refine v_iconst (v := 0) dX0_record_138 (by decide) ?_
                        exact hj139 _ (by (try simp only [b2c_0, b2c_n0] at *); first | exact (b2c_t (by grind)).symm | exact (b2c_f (by grind)).symm)
                      · skip
                        refine v_iconst (v := 1) dX0_record_134 (by decide) ?_
                        refine v_goto (tgt := 139) dX0_record_135 (by decide) ?_
                        exact hj139 _ (by (try simp only [b2c_0, b2c_n0] at *); first | exact (b2c_t (by grind)).symm | exact (b2c_f (by grind)).symm)
                · skip
                  refine v_iload dX0_record_109 rfl ?_
                  refine v_if_eq (tgt := 119) dX0_record_111 (by decide) (fun b111 => ?_) (fun b111 => ?_)
                  · skip
                    refine v_iload_n dX0_record_119 rfl rfl ?_
                    refine v_iconst (v := 4) dX0_record_120 (by decide) ?_
                    refine v_icmp_ne (tgt := 138) dX0_record_121 (by decide) (fun b121 => ?_) (fun b121 => ?_)
                    · skip
                      refine v_iconst (v := 0) dX0_record_138 (by decide) ?_
                      exact hj139 _ (by (try simp only [b2c_0, b2c_n0] at *); first | exact (b2c_t (by grind)).symm | exact (b2c_f (by grind)).symm)
                    · skip
                      refine v_iload dX0_record_124 rfl ?_
                      refine v_if_eq (tgt := 138) dX0_record_126 (by decide) (fun b126 => ?_) (fun b126 => ?_)
                      · skip
                        refine v_iconst (v := 0) dX0_record_138 (by decide) ?_
                        exact hj139 _ (by (try simp only [b2c_0, b2c_n0] at *); first | exact (b2c_t (by grind)).symm | exact (b2c_f (by grind)).symm)
                      · skip
                        refine v_iload dX0_record_129 rfl ?_
                        refine v_if_ne (tgt := 138) dX0_record_131 (by decide) (fun b131 => ?_) (fun b131 => ?_)
                        · skip
                          refine v_iconst (v := 0) dX0_record_138 (by decide) ?_
                          exact hj139 _ (by (try simp only [b2c_0, b2c_n0] at *); first | exact (b2c_t (by grind)).symm | exact (b2c_f (by grind)).symm)
                        · skip
                          refine v_iconst (v := 1) dX0_record_134 (by decide) ?_
                          refine v_goto (tgt := 139) dX0_record_135 (by decide) ?_
                          exact hj139 _ (by (try simp only [b2c_0, b2c_n0] at *); first | exact (b2c_t (by grind)).symm | exact (b2c_f (by grind)).symm)
                  · skip
                    refine v_iload dX0_record_114 rfl ?_
                    refine v_if_eq (tgt := 134) dX0_record_116 (by decide) (fun b116 => ?_) (fun b116 => ?_)
                    · skip
                      refine v_iconst (v := 1) dX0_record_134 (by decide) ?_
                      refine v_goto (tgt := 139) dX0_record_135 (by decide) ?_
                      exact hj139 _ (by (try simp only [b2c_0, b2c_n0] at *); first | exact (b2c_t (by grind)).symm | exact (b2c_f (by grind)).symm)
                    · skip
                      refine v_iload_n dX0_record_119 rfl rfl ?_
                      refine v_iconst (v := 4) dX0_record_120 (by decide) ?_
                      refine v_icmp_ne (tgt := 138) dX0_record_121 (by decide) (fun b121 => ?_) (fun b121 => ?_)
                      · skip
                        refine v_iconst (v := 0) dX0_record_138 (by decide) ?_
                        exact hj139 _ (by (try simp only [b2c_0, b2c_n0] at *); first | exact (b2c_t (by grind)).symm | exact (b2c_f (by grind)).symm)
                      · skip
                        refine v_iload dX0_record_124 rfl ?_
                        refine v_if_eq (tgt := 138) dX0_record_126 (by decide) (fun b126 => ?_) (fun b126 => ?_)
                        · skip
                          refine v_iconst (v := 0) dX0_record_138 (by decide) ?_
                          exact hj139 _ (by (try simp only [b2c_0, b2c_n0] at *); first | exact (b2c_t (by grind)).symm | exact (b2c_f (by grind)).symm)
                        · skip
                          refine v_iload dX0_record_129 rfl ?_
                          refine v_if_ne (tgt := 138) dX0_record_131 (by decide) (fun b131 => ?_) (fun b131 => ?_)
                          · skip
                            refine v_iconst (v := 0) dX0_record_138 (by decide) ?_
                            exact hj139 _ (by (try simp only [b2c_0, b2c_n0] at *); first | exact (b2c_t (by grind)).symm | exact (b2c_f (by grind)).symm)
                          · skip
                            refine v_iconst (v := 1) dX0_record_134 (by decide) ?_
                            refine v_goto (tgt := 139) dX0_record_135 (by decide) ?_
                            exact hj139 _ (by (try simp only [b2c_0, b2c_n0] at *); first | exact (b2c_t (by grind)).symm | exact (b2c_f (by grind)).symm)
              · skip
                refine v_iload dX0_record_99 rfl ?_
                refine v_if_ne (tgt := 134) dX0_record_101 (by decide) (fun b101 => ?_) (fun b101 => ?_)
                · skip
                  refine v_iconst (v := 1) dX0_record_134 (by decide) ?_
                  refine v_goto (tgt := 139) dX0_record_135 (by decide) ?_
                  exact hj139 _ (by (try simp only [b2c_0, b2c_n0] at *); first | exact (b2c_t (by grind)).symm | exact (b2c_f (by grind)).symm)
                · skip
                  refine v_iload_n dX0_record_104 rfl rfl ?_
                  refine v_iconst (v := 3) dX0_record_105 (by decide) ?_
                  refine v_icmp_ne (tgt := 119) dX0_record_106 (by decide) (fun b106 => ?_) (fun b106 => ?_)
                  · skip
                    refine v_iload_n dX0_record_119 rfl rfl ?_
                    refine v_iconst (v := 4) dX0_record_120 (by decide) ?_
                    refine v_icmp_ne (tgt := 138) dX0_record_121 (by decide) (fun b121 => ?_) (fun b121 => ?_)
                    · skip
                      refine v_iconst (v := 0) dX0_record_138 (by decide) ?_
                      exact hj139 _ (by (try simp only [b2c_0, b2c_n0] at *); first | exact (b2c_t (by grind)).symm | exact (b2c_f (by grind)).symm)
                    · skip
                      refine v_iload dX0_record_124 rfl ?_
                      refine v_if_eq (tgt := 138) dX0_record_126 (by decide) (fun b126 => ?_) (fun b126 => ?_)
                      · skip
                        refine v_iconst (v := 0) dX0_record_138 (by decide) ?_
                        exact hj139 _ (by (try simp only [b2c_0, b2c_n0] at *); first | exact (b2c_t (by grind)).symm | exact (b2c_f (by grind)).symm)
                      · skip
                        refine v_iload dX0_record_129 rfl ?_
                        refine v_if_ne (tgt := 138) dX0_record_131 (by decide) (fun b131 => ?_) (fun b131 => ?_)
                        · skip
                          refine v_iconst (v := 0) dX0_record_138 (by decide) ?_
                          exact hj139 _ (by (try simp only [b2c_0, b2c_n0] at *); first | exact (b2c_t (by grind)).symm | exact (b2c_f (by grind)).symm)
                        · skip
                          refine v_iconst (v := 1) dX0_record_134 (by decide) ?_
                          refine v_goto (tgt := 139) dX0_record_135 (by decide) ?_
                          exact hj139 _ (by (try simp only [b2c_0, b2c_n0] at *); first | exact (b2c_t (by grind)).symm | exact (b2c_f (by grind)).symm)
                  · skip
                    refine v_iload dX0_record_109 rfl ?_
                    refine v_if_eq (tgt := 119) dX0_record_111 (by decide) (fun b111 => ?_) (fun b111 => ?_)
                    · skip
                      refine v_iload_n dX0_record_119 rfl rfl ?_
                      refine v_iconst (v := 4) dX0_record_120 (by decide) ?_
                      refine v_icmp_ne (tgt := 138) dX0_record_121 (by decide) (fun b121 => ?_) (fun b121 => ?_)
                      · skip
                        refine v_iconst (v := 0) dX0_record_138 (by decide) ?_
                        exact hj139 _ (by (try simp only [b2c_0, b2c_n0] at *); first | exact (b2c_t (by grind)).symm | exact (b2c_f (by grind)).symm)
                      · skip
                        refine v_iload dX0_record_124 rfl ?_
                        refine v_if_eq (tgt := 138) dX0_record_126 (by decide) (fun b126 => ?_) (fun b126 => ?_)
                        · skip
                          refine v_iconst (v := 0) dX0_record_138 (by decide) ?_
                          exact hj139 _ (by (try simp only [b2c_0, b2c_n0] at *); first | exact (b2c_t (by grind)).symm | exact (b2c_f (by grind)).symm)
                        · skip
                          refine v_iload dX0_record_129 rfl ?_
                          refine v_if_ne (tgt := 138) dX0_record_131 (by decide) (fun b131 => ?_) (fun b131 => ?_)
                          · skip
                            refine v_iconst (v := 0) dX0_record_138 (by decide) ?_
                            exact hj139 _ (by (try simp only [b2c_0, b2c_n0] at *); first | exact (b2c_t (by grind)).symm | exact (b2c_f (by grind)).symm)
                          · skip
                            refine v_iconst (v := 1) dX0_record_134 (by decide) ?_
                            refine v_goto (tgt := 139) dX0_record_135 (by decide) ?_
                            exact hj139 _ (by (try simp only [b2c_0, b2c_n0] at *); first | exact (b2c_t (by grind)).symm | exact (b2c_f (by grind)).symm)
                    · skip
                      refine v_iload dX0_record_114 rfl ?_
                      refine v_if_eq (tgt := 134) dX0_record_116 (by decide) (fun b116 => ?_) (fun b116 => ?_)
                      · skip
                        refine v_iconst (v := 1) dX0_record_134 (by decide) ?_
                        refine v_goto (tgt := 139) dX0_record_135 (by decide) ?_
                        exact hj139 _ (by (try simp only [b2c_0, b2c_n0] at *); first | exact (b2c_t (by grind)).symm | exact (b2c_f (by grind)).symm)
                      · skip
                        refine v_iload_n dX0_record_119 rfl rfl ?_
                        refine v_iconst (v := 4) dX0_record_120 (by decide) ?_
                        refine v_icmp_ne (tgt := 138) dX0_record_121 (by decide) (fun b121 => ?_) (fun b121 => ?_)
                        · skip
                          refine v_iconst (v := 0) dX0_record_138 (by decide) ?_
                          exact hj139 _ (by (try simp only [b2c_0, b2c_n0] at *); first | exact (b2c_t (by grind)).symm | exact (b2c_f (by grind)).symm)
                        · skip
                          refine v_iload dX0_record_124 rfl ?_
                          refine v_if_eq (tgt := 138) dX0_record_126 (by decide) (fun b126 => ?_) (fun b126 => ?_)
                          · skip
                            refine v_iconst (v := 0) dX0_record_138 (by decide) ?_
                            exact hj139 _ (by (try simp only [b2c_0, b2c_n0] at *); first | exact (b2c_t (by grind)).symm | exact (b2c_f (by grind)).symm)
                          · skip
                            refine v_iload dX0_record_129 rfl ?_
                            refine v_if_ne (tgt := 138) dX0_record_131 (by decide) (fun b131 => ?_) (fun b131 => ?_)
                            · skip
                              refine v_iconst (v := 0) dX0_record_138 (by decide) ?_
                              exact hj139 _ (by (try simp only [b2c_0, b2c_n0] at *); first | exact (b2c_t (by grind)).symm | exact (b2c_f (by grind)).symm)
                            · skip
                              refine v_iconst (v := 1) dX0_record_134 (by decide) ?_
                              refine v_goto (tgt := 139) dX0_record_135 (by decide) ?_
                              exact hj139 _ (by (try simp only [b2c_0, b2c_n0] at *); first | exact (b2c_t (by grind)).symm | exact (b2c_f (by grind)).symm)
            · skip
              refine v_iload dX0_record_89 rfl ?_
              refine v_if_ne (tgt := 134) dX0_record_91 (by decide) (fun b91 => ?_) (fun b91 => ?_)
              · skip
                refine v_iconst (v := 1) dX0_record_134 (by decide) ?_
                refine v_goto (tgt := 139) dX0_record_135 (by decide) ?_
                exact hj139 _ (by (try simp only [b2c_0, b2c_n0] at *); first | exact (b2c_t (by grind)).symm | exact (b2c_f (by grind)).symm)
              · skip
                refine v_iload_n dX0_record_94 rfl rfl ?_
                refine v_iconst (v := 2) dX0_record_95 (by decide) ?_
                refine v_icmp_ne (tgt := 104) dX0_record_96 (by decide) (fun b96 => ?_) (fun b96 => ?_)
                · skip
                  refine v_iload_n dX0_record_104 rfl rfl ?_
                  refine v_iconst (v := 3) dX0_record_105 (by decide) ?_
                  refine v_icmp_ne (tgt := 119) dX0_record_106 (by decide) (fun b106 => ?_) (fun b106 => ?_)
                  · skip
                    refine v_iload_n dX0_record_119 rfl rfl ?_
                    refine v_iconst (v := 4) dX0_record_120 (by decide) ?_
                    refine v_icmp_ne (tgt := 138) dX0_record_121 (by decide) (fun b121 => ?_) (fun b121 => ?_)
                    · skip
                      refine v_iconst (v := 0) dX0_record_138 (by decide) ?_
                      exact hj139 _ (by (try simp only [b2c_0, b2c_n0] at *); first | exact (b2c_t (by grind)).symm | exact (b2c_f (by grind)).symm)
                    · skip
                      refine v_iload dX0_record_124 rfl ?_
                      refine v_if_eq (tgt := 138) dX0_record_126 (by decide) (fun b126 => ?_) (fun b126 => ?_)
                      · skip
                        refine v_iconst (v := 0) dX0_record_138 (by decide) ?_
                        exact hj139 _ (by (try simp only [b2c_0, b2c_n0] at *); first | exact (b2c_t (by grind)).symm | exact (b2c_f (by grind)).symm)
                      · skip
                        refine v_iload dX0_record_129 rfl ?_
                        refine v_if_ne (tgt := 138) dX0_record_131 (by decide) (fun b131 => ?_) (fun b131 => ?_)
                        · skip
                          refine v_iconst (v := 0) dX0_record_138 (by decide) ?_
                          exact hj139 _ (by (try simp only [b2c_0, b2c_n0] at *); first | exact (b2c_t (by grind)).symm | exact (b2c_f (by grind)).symm)
                        · skip
                          refine v_iconst (v := 1) dX0_record_134 (by decide) ?_
                          refine v_goto (tgt := 139) dX0_record_135 (by decide) ?_
                          exact hj139 _ (by (try simp only [b2c_0, b2c_n0] at *); first | exact (b2c_t (by grind)).symm | exact (b2c_f (by grind)).symm)
                  · skip
                    refine v_iload dX0_record_109 rfl ?_
                    refine v_if_eq (tgt := 119) dX0_record_111 (by decide) (fun b111 => ?_) (fun b111 => ?_)
                    · skip
                      refine v_iload_n dX0_record_119 rfl rfl ?_
                      refine v_iconst (v := 4) dX0_record_120 (by decide) ?_
                      refine v_icmp_ne (tgt := 138) dX0_record_121 (by decide) (fun b121 => ?_) (fun b121 => ?_)
                      · skip
                        refine v_iconst (v := 0) dX0_record_138 (by decide) ?_
                        exact hj139 _ (by (try simp only [b2c_0, b2c_n0] at *); first | exact (b2c_t (by grind)).symm | exact (b2c_f (by grind)).symm)
                      · skip
                        refine v_iload dX0_record_124 rfl ?_
                        refine v_if_eq (tgt := 138) dX0_record_126 (by decide) (fun b126 => ?_) (fun b126 => ?_)
                        · skip
                          refine v_iconst (v := 0) dX0_record_138 (by decide) ?_
                          exact hj139 _ (by (try simp only [b2c_0, b2c_n0] at *); first | exact (b2c_t (by grind)).symm | exact (b2c_f (by grind)).symm)
                        · skip
                          refine v_iload dX0_record_129 rfl ?_
                          refine v_if_ne (tgt := 138) dX0_record_131 (by decide) (fun b131 => ?_) (fun b131 => ?_)
                          · skip
                            refine v_iconst (v := 0) dX0_record_138 (by decide) ?_
                            exact hj139 _ (by (try simp only [b2c_0, b2c_n0] at *); first | exact (b2c_t (by grind)).symm | exact (b2c_f (by grind)).symm)
                          · skip
                            refine v_iconst (v := 1) dX0_record_134 (by decide) ?_
                            refine v_goto (tgt := 139) dX0_record_135 (by decide) ?_
                            exact hj139 _ (by (try simp only [b2c_0, b2c_n0] at *); first | exact (b2c_t (by grind)).symm | exact (b2c_f (by grind)).symm)
                    · skip
                      refine v_iload dX0_record_114 rfl ?_
                      refine v_if_eq (tgt := 134) dX0_record_116 (by decide) (fun b116 => ?_) (fun b116 => ?_)
                      · skip
                        refine v_iconst (v := 1) dX0_record_134 (by decide) ?_
                        refine v_goto (tgt := 139) dX0_record_135 (by decide) ?_
                        exact hj139 _ (by (try simp only [b2c_0, b2c_n0] at *); first | exact (b2c_t (by grind)).symm | exact (b2c_f (by grind)).symm)
                      · skip
                        refine v_iload_n dX0_record_119 rfl rfl ?_
                        refine v_iconst (v := 4) dX0_record_120 (by decide) ?_
                        refine v_icmp_ne (tgt := 138) dX0_record_121 (by decide) (fun b121 => ?_) (fun b121 => ?_)
                        · skip
                          refine v_iconst (v := 0) dX0_record_138 (by decide) ?_
                          exact hj139 _ (by (try simp only [b2c_0, b2c_n0] at *); first | exact (b2c_t (by grind)).symm | exact (b2c_f (by grind)).symm)
                        · skip
                          refine v_iload dX0_record_124 rfl ?_
                          refine v_if_eq (tgt := 138) dX0_record_126 (by decide) (fun b126 => ?_) (fun b126 => ?_)
                          · skip
                            refine v_iconst (v := 0) dX0_record_138 (by decide) ?_
                            exact hj139 _ (by (try simp only [b2c_0, b2c_n0] at *); first | exact (b2c_t (by grind)).symm | exact (b2c_f (by grind)).symm)
                          · skip
                            refine v_iload dX0_record_129 rfl ?_
                            refine v_if_ne (tgt := 138) dX0_record_131 (by decide) (fun b131 => ?_) (fun b131 => ?_)
                            · skip
                              refine v_iconst (v := 0) dX0_record_138 (by decide) ?_
                              exact hj139 _ (by (try simp only [b2c_0, b2c_n0] at *); first | exact (b2c_t (by grind)).symm | exact (b2c_f (by grind)).symm)
                            · skip
                              refine v_iconst (v := 1) dX0_record_134 (by decide) ?_
                              refine v_goto (tgt := 139) dX0_record_135 (by decide) ?_
                              exact hj139 _ (by (try simp only [b2c_0, b2c_n0] at *); first | exact (b2c_t (by grind)).symm | exact (b2c_f (by grind)).symm)
                · skip
                  refine v_iload dX0_record_99 rfl ?_
                  refine v_if_ne (tgt := 134) dX0_record_101 (by decide) (fun b101 => ?_) (fun b101 => ?_)
                  · skip
                    refine v_iconst (v := 1) dX0_record_134 (by decide) ?_
                    refine v_goto (tgt := 139) dX0_record_135 (by decide) ?_
                    exact hj139 _ (by (try simp only [b2c_0, b2c_n0] at *); first | exact (b2c_t (by grind)).symm | exact (b2c_f (by grind)).symm)
                  · skip
                    refine v_iload_n dX0_record_104 rfl rfl ?_
                    refine v_iconst (v := 3) dX0_record_105 (by decide) ?_
                    refine v_icmp_ne (tgt := 119) dX0_record_106 (by decide) (fun b106 => ?_) (fun b106 => ?_)
                    · skip
                      refine v_iload_n dX0_record_119 rfl rfl ?_
                      refine v_iconst (v := 4) dX0_record_120 (by decide) ?_
                      refine v_icmp_ne (tgt := 138) dX0_record_121 (by decide) (fun b121 => ?_) (fun b121 => ?_)
                      · skip
                        refine v_iconst (v := 0) dX0_record_138 (by decide) ?_
                        exact hj139 _ (by (try simp only [b2c_0, b2c_n0] at *); first | exact (b2c_t (by grind)).symm | exact (b2c_f (by grind)).symm)
                      · skip
                        refine v_iload dX0_record_124 rfl ?_
                        refine v_if_eq (tgt := 138) dX0_record_126 (by decide) (fun b126 => ?_) (fun b126 => ?_)
                        · skip
                          refine v_iconst (v := 0) dX0_record_138 (by decide) ?_
                          exact hj139 _ (by (try simp only [b2c_0, b2c_n0] at *); first | exact (b2c_t (by grind)).symm | exact (b2c_f (by grind)).symm)
                        · skip
                          refine v_iload dX0_record_129 rfl ?_
                          refine v_if_ne (tgt := 138) dX0_record_131 (by decide) (fun b131 => ?_) (fun b131 => ?_)
                          · skip
                            refine v_iconst (v := 0) dX0_record_138 (by decide) ?_
                            exact hj139 _ (by (try simp only [b2c_0, b2c_n0] at *); first | exact (b2c_t (by grind)).symm | exact (b2c_f (by grind)).symm)
                          · skip
                            refine v_iconst (v := 1) dX0_record_134 (by decide) ?_
                            refine v_goto (tgt := 139) dX0_record_135 (by decide) ?_
                            exact hj139 _ (by (try simp only [b2c_0, b2c_n0] at *); first | exact (b2c_t (by grind)).symm | exact (b2c_f (by grind)).symm)
                    · skip
                      refine v_iload dX0_record_109 rfl ?_
                      refine v_if_eq (tgt := 119) dX0_record_111 (by decide) (fun b111 => ?_) (fun b111 => ?_)
                      · skip
                        refine v_iload_n dX0_record_119 rfl rfl ?_
                        refine v_iconst (v := 4) dX0_record_120 (by decide) ?_
                        refine v_icmp_ne (tgt := 138) dX0_record_121 (by decide) (fun b121 => ?_) (fun b121 => ?_)
                        · skip
                          refine v_iconst (v := 0) dX0_record_138 (by decide) ?_
                          exact hj139 _ (by (try simp only [b2c_0, b2c_n0] at *); first | exact (b2c_t (by grind)).symm | exact (b2c_f (by grind)).symm)
                        · skip
                          refine v_iload dX0_record_124 rfl ?_
                          refine v_if_eq (tgt := 138) dX0_record_126 (by decide) (fun b126 => ?_) (fun b126 => ?_)
                          · skip
                            refine v_iconst (v := 0) dX0_record_138 (by decide) ?_
                            exact hj139 _ (by (try simp only [b2c_0, b2c_n0] at *); first | exact (b2c_t (by grind)).symm | exact (b2c_f (by grind)).symm)
                          · skip
                            refine v_iload dX0_record_129 rfl ?_
                            refine v_if_ne (tgt := 138) dX0_record_131 (by decide) (fun b131 => ?_) (fun b131 => ?_)
                            · skip
                              refine v_iconst (v := 0) dX0_record_138 (by decide) ?_
                              exact hj139 _ (by (try simp only [b2c_0, b2c_n0] at *); first | exact (b2c_t (by grind)).symm | exact (b2c_f (by grind)).symm)
                            · skip
                              refine v_iconst (v := 1) dX0_record_134 (by decide) ?_
                              refine v_goto (tgt := 139) dX0_record_135 (by decide) ?_
                              exact hj139 _ (by (try simp only [b2c_0, b2c_n0] at *); first | exact (b2c_t (by grind)).symm | exact (b2c_f (by grind)).symm)
                      · skip
                        refine v_iload dX0_record_114 rfl ?_
                        refine v_if_eq (tgt := 134) dX0_record_116 (by decide) (fun b116 => ?_) (fun b116 => ?_)
                        · skip
                          refine v_iconst (v := 1) dX0_record_134 (by decide) ?_
                          refine v_goto (tgt := 139) dX0_record_135 (by decide) ?_
                          exact hj139 _ (by (try simp only [b2c_0, b2c_n0] at *); first | exact (b2c_t (by grind)).symm | exact (b2c_f (by grind)).symm)
                        · skip
                          refine v_iload_n dX0_record_119 rfl rfl ?_
                          refine v_iconst (v := 4) dX0_record_120 (by decide) ?_
                          refine v_icmp_ne (tgt := 138) dX0_record_121 (by decide) (fun b121 => ?_) (fun b121 => ?_)
                          · skip
                            refine v_iconst (v := 0) dX0_record_138 (by decide) ?_
                            exact hj139 _ (by (try simp only [b2c_0, b2c_n0] at *); first | exact (b2c_t (by grind)).symm | exact (b2c_f (by grind)).symm)
                          · skip
                            refine v_iload dX0_record_124 rfl ?_
                            refine v_if_eq (tgt := 138) dX0_record_126 (by decide) (fun b126 => ?_) (fun b126 => ?_)
                            · skip
                              refine v_iconst (v := 0) dX0_record_138 (by decide) ?_
                              exact hj139 _ (by (try simp only [b2c_0, b2c_n0] at *); first | exact (b2c_t (by grind)).symm | exact (b2c_f (by grind)).symm)
                            · skip
                              refine v_iload dX0_record_129 rfl ?_
                              refine v_if_ne (tgt := 138) dX0_record_131 (by decide) (fun b131 => ?_) (fun b131 => ?_)
                              · skip
                                refine v_iconst (v := 0) dX0_record_138 (by decide) ?_
                                exact hj139 _ (by (try simp only [b2c_0, b2c_n0] at *); first | exact (b2c_t (by grind)).symm | exact (b2c_f (by grind)).symm)
                              · skip
                                refine v_iconst (v := 1) dX0_record_134 (by decide) ?_
                                refine v_goto (tgt := 139) dX0_record_135 (by decide) ?_
                                exact hj139 _ (by (try simp only [b2c_0, b2c_n0] at *); first | exact (b2c_t (by grind)).symm | exact (b2c_f (by grind)).symm)
      · skip
        have hgn : gc_ (rda_ A C T nC lo sm p x) (k + 1) = gc_ (rda_ A C T nC lo sm p x) k := cf_f (fun z => b59 z.1)
        rw [← hgn]
        refine v_goto (tgt := 141) dX0_record_62 (by decide) ?_
        refine v_iinc dX0_record_141 rfl (by first | with_reducible exact nI_inc _ | exact rfl) (by decide) ?_
        refine v_goto (tgt := 27) dX0_record_144 (by decide) ?_
        exact v_loc2 (by repeat' (first | exact trivial | refine And.intro ?_ ?_ | exact rfl)) (IH (k + 1) hkn (by omega))
  · skip
    refine v_cut 20 (¬ ((0 ≤ p ∧ p < nI sN) ∧ (0 ≤ x ∧ x ≤ 4))) (fun hz20 => ?_) (fun hc20 => ?_)
    · skip
      refine v_iconst (v := (-1)) dX0_record_20 (by decide) ?_
      exact v_reti dX0_record_21 rfl (Pu_i (by unfold an_record; rw [cf_f hz20]))
    · skip
      refine v_aload_n dX0_record_0 rfl rfl ?_
      refine v_iload_n dX0_record_1 rfl rfl ?_
      refine v_pV mtX0_isPerson q450 q452 qs1 rfl (by decide) dX0_record_2 (c_X0_isPerson hX h39.2 _) hX.1 (by first | decide | omega) ?_
      refine v_if_eq (tgt := 20) dX0_record_5 (by decide) (fun b5 => ?_) (fun b5 => ?_)
      · skip
        exact hc20 (by (try simp only [b2i_0, b2i_n0, b2c_0, b2c_n0] at *); grind)
      · skip
        refine v_iload_n dX0_record_8 rfl rfl ?_
        refine v_i2l dX0_record_9 ?_
        refine v_lconst (v := (0 : Int32).toInt64) dX0_record_10 (by decide) ?_
        refine v_ldc2 (v := (4 : Int32).toInt64) q713 dX0_record_11 (by decide) ?_
        refine v_pS mtX0_in q162 q163 dX0_record_14 (c_X0_in _ _ _) (by first | decide | omega) ?_
        refine v_if_ne (tgt := 22) dX0_record_17 (by decide) (fun b17 => ?_) (fun b17 => ?_)
        · skip
          exact hc22 (by (try simp only [b2i_0, b2i_n0, b2c_0, b2c_n0] at *); grind)
        · skip
          exact hc20 (by (try simp only [b2i_0, b2i_n0, b2c_0, b2c_n0] at *); grind)

