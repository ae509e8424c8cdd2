set_option maxRecDepth 100000
/-- a way fits for a person as a report tells, as data -/
def stb_ (A : Nat → Int32) (C : Nat → Nat → Int32) (nC sN : Nat) (S : Int32) (N K Z M T : Nat → Int32) (r w p f : Nat) : Prop := (T (7 * r + 2)).toNatClampNeg < nLaid A ∧ ¬ fia_ A C nC sN S N K Z M w p f (T (7 * r + 2)).toNatClampNeg (T (7 * r + 3)).toNatClampNeg (T (7 * r + 4)).toNatClampNeg (T (7 * r + 5)).toNatClampNeg = -1
def sta_ (A : Nat → Int32) (C : Nat → Nat → Int32) (nC sN : Nat) (S : Int32) (N K Z M T : Nat → Int32) (r w p : Nat) (b : Int32) : Prop := stb_ A C nC sN S N K Z M T r w p 0 ∨ (¬ b = 0 ∧ ∃ q, q < sN ∧ ¬ q = p ∧ stb_ A C nC sN S N K Z M T r w p (2 ^ q))
theorem fia_e {A : Nat → Int32} {C : Nat → Nat → Int32} {nC sN w p f th g s e : Nat} {S : Int32} {N K Z M : Nat → Int32} : ft_ (fun s => run_ A C nC sN S K Z M w (N w).toNatClampNeg (2 ^ p ||| f) p (wh_ A th (nI s) (nMov A)).toNatClampNeg g s e) s (e + 1 - s) = fia_ A C nC sN S N K Z M w p f th g s e := rfl
def bc_ (x : Int32) : Int32 :=
  let a := x - ((x.toUInt32 >>> ((1 : Int32).toUInt32 &&& Int32.toUInt32 31)).toInt32 &&& 1431655765)
  let b := (a &&& 858993459) + ((a.toUInt32 >>> ((2 : Int32).toUInt32 &&& Int32.toUInt32 31)).toInt32 &&& 858993459)
  let c := (b + (b.toUInt32 >>> ((4 : Int32).toUInt32 &&& Int32.toUInt32 31)).toInt32) &&& 252645135
  let d := c + (c.toUInt32 >>> ((8 : Int32).toUInt32 &&& Int32.toUInt32 31)).toInt32
  let e := d + (d.toUInt32 >>> ((16 : Int32).toUInt32 &&& Int32.toUInt32 31)).toInt32
  e &&& 63
theorem bc_e : ∀ n, n < 512 → bc_ (nI n) = nI (on_ n) := by decide +kernel
theorem c_J11_bitCount {G : Gv} {h : AH} {n : Nat} (hn : n < 512) : Ctr G 0 yJ11_bitCount cJ11_bitCount 1 (some .int) [.int (nI n)] h 0 0 (Pu h (.int (nI (on_ n)))) := by
  refine ctr_of (own := RJ11) (nm := "bitCount") (by decide) (Nat.le_of_ble_eq_true rfl) ?_
  refine v_iload_n dJ11_bitCount_0 rfl rfl ?_
  refine v_iload_n dJ11_bitCount_1 rfl rfl ?_
  refine v_iconst (v := 1) dJ11_bitCount_2 (by decide) ?_
  refine v_iushr dJ11_bitCount_3 ?_
  refine v_ldcw q1390 dJ11_bitCount_4 ?_
  refine v_iand dJ11_bitCount_7 ?_
  refine v_isub dJ11_bitCount_8 ?_
  refine v_istore_n dJ11_bitCount_9 rfl (by decide) ?_
  refine v_iload_n dJ11_bitCount_10 rfl rfl ?_
  refine v_ldcw q1391 dJ11_bitCount_11 ?_
  refine v_iand dJ11_bitCount_14 ?_
  refine v_iload_n dJ11_bitCount_15 rfl rfl ?_
  refine v_iconst (v := 2) dJ11_bitCount_16 (by decide) ?_
  refine v_iushr dJ11_bitCount_17 ?_
  refine v_ldcw q1391 dJ11_bitCount_18 ?_
  refine v_iand dJ11_bitCount_21 ?_
  refine v_iadd dJ11_bitCount_22 ?_
  refine v_istore_n dJ11_bitCount_23 rfl (by decide) ?_
  refine v_iload_n dJ11_bitCount_24 rfl rfl ?_
  refine v_iload_n dJ11_bitCount_25 rfl rfl ?_
  refine v_iconst (v := 4) dJ11_bitCount_26 (by decide) ?_
  refine v_iushr dJ11_bitCount_27 ?_
  refine v_iadd dJ11_bitCount_28 ?_
  refine v_ldcw q1392 dJ11_bitCount_29 ?_
  refine v_iand dJ11_bitCount_32 ?_
  refine v_istore_n dJ11_bitCount_33 rfl (by decide) ?_
  refine v_iload_n dJ11_bitCount_34 rfl rfl ?_
  refine v_iload_n dJ11_bitCount_35 rfl rfl ?_
  refine v_bipush (v := 8) dJ11_bitCount_36 (by decide) ?_
  refine v_iushr dJ11_bitCount_38 ?_
  refine v_iadd dJ11_bitCount_39 ?_
  refine v_istore_n dJ11_bitCount_40 rfl (by decide) ?_
  refine v_iload_n dJ11_bitCount_41 rfl rfl ?_
  refine v_iload_n dJ11_bitCount_42 rfl rfl ?_
  refine v_bipush (v := 16) dJ11_bitCount_43 (by decide) ?_
  refine v_iushr dJ11_bitCount_45 ?_
  refine v_iadd dJ11_bitCount_46 ?_
  refine v_istore_n dJ11_bitCount_47 rfl (by decide) ?_
  refine v_iload_n dJ11_bitCount_48 rfl rfl ?_
  refine v_bipush (v := 63) dJ11_bitCount_49 (by decide) ?_
  refine v_iand dJ11_bitCount_51 ?_
  exact v_reti dJ11_bitCount_52 rfl (Pu_i (bc_e n hn))

set_option maxHeartbeats 1000000 in
theorem c_X19_isStory {G : Gv} {h : AH} {b nC sN : Nat} {A : Nat → Int32} {C : Nat → Nat → Int32} {S : Int32} (hq : XQ_ h b A C nC sN S) {N K Z M T : Nat → Int32} {nR r q wq w p : Nat} (hWE : WE_ h wq K Z M w (N w).toNatClampNeg) (hRP : rp_ok T nR sN) (hrn : r < nR) (hE : CA_ h q T r) (hp : p < sN) (b9 : Int32) : Ctr G 17 yX19_isStory cX19_isStory 5 (some .boolean) [.ref q, .ref wq, .int (nI p), .int b9] h 0 0 (fun r9 h1 => r9 = some (.int (b2c (sta_ A C nC sN S N K Z M T r w p b9))) ∧ R9_ 0 h h1) := by
  refine ctr_of (own := RX19) (nm := "isStory") (by decide) (Nat.le_of_ble_eq_true rfl) ?_
  refine v_kd fun hkd => ?_
  have hq9 := hq
  obtain ⟨hX, hS, ⟨DC, cC, fC, hCA, hCE⟩, hv, hc⟩ := hq9
  have h39 := sv_s hv
  have h8 := hc.1
  have hk0 := xc_run hX.2.2.2.2
  have hE0 := hE
  have hlaid := sv_laid hv
  obtain ⟨⟨pn, hpn, e0⟩, ek, ⟨an, bn, hab, hbn, e4, e5⟩, ⟨dn, hdn, e6⟩⟩ := hRP.2 r hrn
  obtain ⟨-, ⟨tn, htn, e2⟩, ⟨xn, hxn, e3⟩⟩ := ek.resolve_right (fun z => by rw [hE.2.2.2.2.2] at z; exact absurd z.1 (by decide))
  have hp2 : ∀ q, q < sN → 2 ^ q < 2 ^ 9 := fun q hq => Nat.pow_lt_pow_right (by decide) (by omega)
  have eT : (T (7 * r + 2)).toNatClampNeg = tn ∧ (T (7 * r + 3)).toNatClampNeg = xn ∧ (T (7 * r + 4)).toNatClampNeg = an ∧ (T (7 * r + 5)).toNatClampNeg = bn := ⟨by rw [e2, nI_clamp (by omega)], by rw [e3, nI_clamp (by omega)], by rw [e4, nI_clamp (by omega)], by rw [e5, nI_clamp (by omega)]⟩
  refine v_aload_n dX19_isStory_0 rfl rfl ?_
  refine v_getR fX19_3 dX19_isStory_1 hE.1 hE.2.2.2.2.1 ?_
  refine v_aload_n dX19_isStory_4 rfl rfl ?_
  refine v_getI fX19_15 dX19_isStory_5 hE.1 ?_
  rw [hE.2.2.1, e2]
  refine v_pVN mtX0_isThing (nw_m q1380 rfl) q599 qs9 rfl (by decide) dX19_isStory_8 (c_X0_isThing hX hS (sv_laid hv).2 (sv_laid hv).1 _) hX.1 (by first | decide | omega) ?_
  refine v_if_ne (tgt := 16) dX19_isStory_11 (by decide) (fun b11 => ?_) (fun b11 => ?_)
  · skip
    rw [b2i_n0, hlaid.2] at b11
    have hnt : tn < nLaid A := (nI_ltI (by omega) (by omega)).mp b11.2
    refine v_aload_n dX19_isStory_16 rfl rfl ?_
    refine v_getR fX19_3 dX19_isStory_17 hE.1 hE.2.2.2.2.1 ?_
    refine v_aload_n dX19_isStory_20 rfl rfl ?_
    refine v_iload_n dX19_isStory_21 rfl rfl ?_
    refine v_iconst (v := nI 0) dX19_isStory_22 (by decide) ?_
    refine v_aload_n dX19_isStory_23 rfl rfl ?_
    refine v_getI fX19_15 dX19_isStory_24 hE.1 ?_
    rw [hE.2.2.1, e2]
    refine v_aload_n dX19_isStory_27 rfl rfl ?_
    refine v_getI fX19_19 dX19_isStory_28 hE.1 ?_
    rw [hE.2.2.2.1, e3]
    refine v_aload_n dX19_isStory_31 rfl rfl ?_
    refine v_getI fX19_31 dX19_isStory_32 hE.1 ?_
    rw [hE.2.1.2.1, e4]
    refine v_aload_n dX19_isStory_35 rfl rfl ?_
    refine v_getI fX19_34 dX19_isStory_36 hE.1 ?_
    rw [hE.2.1.2.2.1, e5]
    refine v_zVN mtX0_fit (nw_m q1381 rfl) q804 qs24 rfl (by decide) dX19_isStory_39 (c_X0_fit (k := (N w).toNatClampNeg) (f := 0) hq hWE hp (by decide) hnt (show xn ≤ sN by omega) hab hbn) hX.1 (by first | decide | omega) (fun r39 h39 q39 z39 => ?_)
    obtain ⟨rfl, hR39⟩ := q39
    rw [fia_e]
    refine v_iconst (v := (-1)) dX19_isStory_42 (by decide) ?_
    refine v_icmp_eq (tgt := 48) dX19_isStory_43 (by decide) (fun b43 => ?_) (fun b43 => ?_)
    · skip
      have hn0 : ¬ stb_ A C nC sN S N K Z M T r w p 0 := fun z => z.2 (by rw [eT.1, eT.2.1, eT.2.2.1, eT.2.2.2]; exact b43)
      refine v_iconst (v := 0) dX19_isStory_48 (by decide) ?_
      refine v_istore dX19_isStory_49 (by decide) ?_
      refine v_loc2 (by repeat' (first | exact trivial | refine And.intro ?_ ?_ | exact rfl)) (v_lp2 (fun (k : Nat) (hh : AH) => sN - k) (fun (k : Nat) (hh : AH) => k ≤ sN ∧ R9_ 0 h hh ∧ ∀ q, q < k → ¬ q = p → ¬ stb_ A C nC sN S N K Z M T r w p (2 ^ q)) (fun (k : Nat) (hh : AH) => [(0, .ref q), (1, .ref wq), (2, .int (nI p)), (3, .int b9), (4, .int (nI k))]) (fun (k : Nat) (hh : AH) => hh) ?_ 0 _ ⟨Nat.zero_le _, hR39, fun q hq => absurd hq (Nat.not_lt_zero _)⟩)
      clear hX hS hCA hCE hE
      intro k hh ⟨hk, hRh, hI⟩ IH
      have hqx := XQ_R9 hq hRh hkd
      have hWx := WE_R9 hWE hRh hkd hk0
      have hkx := R9_kd hRh hkd
      have hq9 := hqx
      obtain ⟨hX, hS, ⟨DC, cC, fC, hCA, hCE⟩, -, -⟩ := hq9
      have hE := CA_J hE0 (R9_FR hRh) hkd (NJ_94 hk0)
      refine v_iload_n dX19_isStory_51 rfl rfl ?_
      refine v_if_eq (tgt := 114) dX19_isStory_52 (by decide) (fun b52 => ?_) (fun b52 => ?_)
      · skip
        have hz9 : ¬ sta_ A C nC sN S N K Z M T r w p b9 := fun z => z.elim hn0 (fun y => y.1 b52)
        refine v_iconst (v := 0) dX19_isStory_114 (by decide) ?_
        exact v_reti dX19_isStory_115 rfl ⟨congrArg (fun z => some (Value.int z)) (b2c_f hz9).symm, hRh⟩
      · skip
        refine v_iload dX19_isStory_55 rfl ?_
        refine v_aload_n dX19_isStory_57 rfl rfl ?_
        refine v_getR fX19_3 dX19_isStory_58 hE.1 hE.2.2.2.2.1 ?_
        refine v_getI fX19_84 dX19_isStory_61 hX.1 ?_
        rw [hX.2.1]
        refine v_icmp_ge (tgt := 114) dX19_isStory_64 (by decide) (fun b64 => ?_) (fun b64 => ?_)
        · skip
          have hkn : sN ≤ k := (nI_leI (by omega) (by omega)).mp b64
          have hz9 : ¬ sta_ A C nC sN S N K Z M T r w p b9 := fun z => z.elim hn0 (fun ⟨_, q, y1, y2, y3⟩ => hI q (by omega) y2 y3)
          refine v_iconst (v := 0) dX19_isStory_114 (by decide) ?_
          exact v_reti dX19_isStory_115 rfl ⟨congrArg (fun z => some (Value.int z)) (b2c_f hz9).symm, hRh⟩
        · skip
          have hkn : k < sN := Nat.lt_of_not_le (fun z => b64 ((nI_leI (by omega) (by omega)).mpr z))
          have hk9 := hp2 k hkn
          refine v_iload dX19_isStory_67 rfl ?_
          refine v_iload_n dX19_isStory_69 rfl rfl ?_
          refine v_icmp_eq (tgt := 108) dX19_isStory_70 (by decide) (fun b70 => ?_) (fun b70 => ?_)
          · skip
            rw [nI_eq (by omega) (by omega)] at b70
            have hnx : ¬ k = p → ¬ stb_ A C nC sN S N K Z M T r w p (2 ^ k) := fun y => absurd b70 y
            have hRn := hRh
            refine v_iinc dX19_isStory_108 rfl (by first | with_reducible exact nI_inc _ | exact rfl) (by decide) ?_
            refine v_goto (tgt := 51) dX19_isStory_111 (by decide) ?_
            exact v_loc2 (l' := [(0, .ref q), (1, .ref wq), (2, .int (nI p)), (3, .int b9), (4, .int (nI (k + 1)))]) (by repeat' (first | exact trivial | refine And.intro ?_ ?_ | exact rfl)) (IH (k + 1) _ ⟨hkn, hRn, fun q hq => (Nat.lt_succ_iff_lt_or_eq.mp hq).elim (hI q) (fun y => by rw [y]; exact hnx)⟩ (by omega))
          · skip
            rw [nI_eq (by omega) (by omega)] at b70
            refine v_aload_n dX19_isStory_73 rfl rfl ?_
            refine v_getR fX19_3 dX19_isStory_74 hE.1 hE.2.2.2.2.1 ?_
            refine v_aload_n dX19_isStory_77 rfl rfl ?_
            refine v_iload_n dX19_isStory_78 rfl rfl ?_
            refine v_iconst (v := 1) dX19_isStory_79 (by decide) ?_
            refine v_iload dX19_isStory_80 rfl ?_
            refine v_ishl dX19_isStory_82 ?_
            rw [sh_1 (by omega)]
            refine v_aload_n dX19_isStory_83 rfl rfl ?_
            refine v_getI fX19_15 dX19_isStory_84 hE.1 ?_
            rw [hE.2.2.1, e2]
            refine v_aload_n dX19_isStory_87 rfl rfl ?_
            refine v_getI fX19_19 dX19_isStory_88 hE.1 ?_
            rw [hE.2.2.2.1, e3]
            refine v_aload_n dX19_isStory_91 rfl rfl ?_
            refine v_getI fX19_31 dX19_isStory_92 hE.1 ?_
            rw [hE.2.1.2.1, e4]
            refine v_aload_n dX19_isStory_95 rfl rfl ?_
            refine v_getI fX19_34 dX19_isStory_96 hE.1 ?_
            rw [hE.2.1.2.2.1, e5]
            refine v_zVN mtX0_fit (nw_m q1381 rfl) q804 qs24 rfl (by decide) dX19_isStory_99 (c_X0_fit (k := (N w).toNatClampNeg) (f := 2 ^ k) hqx hWx hp (by omega) hnt (show xn ≤ sN by omega) hab hbn) hX.1 (by first | decide | omega) (fun r99 h99 q99 z99 => ?_)
            obtain ⟨rfl, hR99⟩ := q99
            rw [fia_e]
            have hRn := R9_tr hRh hR99
            refine v_iconst (v := (-1)) dX19_isStory_102 (by decide) ?_
            refine v_icmp_eq (tgt := 108) dX19_isStory_103 (by decide) (fun b103 => ?_) (fun b103 => ?_)
            · skip
              have hnx : ¬ k = p → ¬ stb_ A C nC sN S N K Z M T r w p (2 ^ k) := fun _ z => z.2 (by rw [eT.1, eT.2.1, eT.2.2.1, eT.2.2.2]; exact b103)
              refine v_iinc dX19_isStory_108 rfl (by first | with_reducible exact nI_inc _ | exact rfl) (by decide) ?_
              refine v_goto (tgt := 51) dX19_isStory_111 (by decide) ?_
              exact v_loc2 (l' := [(0, .ref q), (1, .ref wq), (2, .int (nI p)), (3, .int b9), (4, .int (nI (k + 1)))]) (by repeat' (first | exact trivial | refine And.intro ?_ ?_ | exact rfl)) (IH (k + 1) _ ⟨hkn, hRn, fun q hq => (Nat.lt_succ_iff_lt_or_eq.mp hq).elim (hI q) (fun y => by rw [y]; exact hnx)⟩ (by omega))
            · skip
              have hz9 : sta_ A C nC sN S N K Z M T r w p b9 := Or.inr ⟨b52, k, hkn, b70, by rw [eT.1]; exact hnt, by rw [eT.1, eT.2.1, eT.2.2.1, eT.2.2.2]; exact b103⟩
              refine v_iconst (v := 1) dX19_isStory_106 (by decide) ?_
              exact v_reti dX19_isStory_107 rfl ⟨congrArg (fun z => some (Value.int z)) (b2c_t hz9).symm, hRn⟩
    · skip
      have hz9 : sta_ A C nC sN S N K Z M T r w p b9 := Or.inl ⟨by rw [eT.1]; exact hnt, by rw [eT.1, eT.2.1, eT.2.2.1, eT.2.2.2]; exact b43⟩
      refine v_iconst (v := 1) dX19_isStory_46 (by decide) ?_
      exact v_reti dX19_isStory_47 rfl ⟨congrArg (fun z => some (Value.int z)) (b2c_t hz9).symm, hR39⟩
  · skip
    rw [b2i_0, hlaid.2] at b11
    have hnt : ¬ tn < nLaid A := fun z => b11 ⟨Int32.not_lt.mp (nI_pos (by omega)), (nI_ltI (by omega) (by omega)).mpr z⟩
    have hz9 : ¬ sta_ A C nC sN S N K Z M T r w p b9 := fun z => z.elim (fun y => hnt (by have := y.1; rw [eT.1] at this; exact this)) (fun ⟨_, q, _, _, y⟩ => hnt (by have := y.1; rw [eT.1] at this; exact this))
    refine v_iconst (v := 0) dX19_isStory_14 (by decide) ?_
    exact v_reti dX19_isStory_15 rfl ⟨congrArg (fun z => some (Value.int z)) (b2c_f hz9).symm, R9_rf⟩

noncomputable def an_stories (A : Nat → Int32) (C : Nat → Nat → Int32) (nC sN : Nat) (S : Int32) (N K Z M T : Nat → Int32) (nW nR : Nat) (r b x : Int32) : Int32 := cf_ (((0 ≤ r ∧ r < nI nR) ∧ T (7 * r.toNatClampNeg + 1) = 0) ∧ (0 ≤ x ∧ x ≤ 2)) (cf_ (x = 0) (nI (tc_ (fun w p => sta_ A C nC sN S N K Z M T r.toNatClampNeg w p b) sN nW))
    (cf_ (x = 1) (nI (sc_ (fun q => ∃ i, i < nW ∧ sta_ A C nC sN S N K Z M T r.toNatClampNeg i q b) sN)) (nI (sc_ (fun i => ∃ q, q < sN ∧ sta_ A C nC sN S N K Z M T r.toNatClampNeg i q b) nW)))) (-1)
set_option maxHeartbeats 2000000 in
theorem c_X0_stories {G : Gv} {h : AH} {b nC sN : Nat} {A : Nat → Int32} {C : Nat → Nat → Int32} (hq : XQ_ h b A C nC sN 0) {T : Nat → Int32} {nR : Nat} (hRP : rp_ok T nR sN) {DR cR : Nat} {fR : Nat → Nat} (hRA : AL_ h 96 DR cR nR fR) (hRE : ∀ r, r < nR → RE_ h (fR r) T r) {N K Z M : Nat → Int32} {nW : Nat} (hWS : WS_ h N K Z M nW) (hN : gn_ok G) (x b y : Int32) : Ctr G 18 yX0_stories cX0_stories 10 (some .int) [.ref 30, .int x, .int b, .int y] h 0 0 (fun r9 h1 => r9 = some (.int (an_stories A C nC sN 0 N K Z M T nW nR x b y)) ∧ R9_ 0 h h1) := by
  refine ctr_of (own := RX0) (nm := "stories") (by decide) (Nat.le_of_ble_eq_true rfl) ?_
  refine v_kd fun hkd => ?_
  have hq9 := hq
  obtain ⟨hX, hS, ⟨DC, cC, fC, hCA, hCE⟩, hv, hc⟩ := hq9
  have h39 := sv_s hv
  have hWS9 := hWS
  obtain ⟨hW8, hWN, LW, DW, cW, fW, hWR, hWA, hWE9⟩ := hWS9
  have h8 := hc.1
  have hk0 := xc_run hX.2.2.2.2
  have hR30 := hRP.1
  by_cases hx0 : (0 ≤ x ∧ x < nI nR) ∧ T (7 * x.toNatClampNeg + 1) = 0
  · skip
    have hx0c := hx0
    obtain ⟨k, hkn, rfl⟩ := nI_rng hx0c.1 (by omega)
    have h0 := hx0.2
    rw [nI_clamp (by omega)] at h0
    have hE0 := (hRE k hkn).resolve_right (fun z => absurd (h0.symm.trans z.2.2.2.2) (by decide))
    refine v_aload_n dX0_stories_0 rfl rfl ?_
    refine v_iload_n dX0_stories_1 rfl rfl ?_
    refine v_pV mtX0_came q1372 q1374 qs45 rfl (by decide) dX0_stories_2 (c_X0_camet hq hRP hRA hRE hkn h0) hX.1 (by first | decide | omega) ?_
    refine v_astore dX0_stories_5 (by decide) ?_
    refine v_aload dX0_stories_7 rfl ?_
    refine v_ifnull dX0_stories_9 ?_
    refine v_iload_n dX0_stories_12 rfl rfl ?_
    refine v_i2l dX0_stories_13 ?_
    refine v_lconst (v := (0 : Int32).toInt64) dX0_stories_14 (by decide) ?_
    refine v_ldc2 (v := (2 : Int32).toInt64) q695 dX0_stories_15 (by decide) ?_
    refine v_pS mtX0_in q162 q163 dX0_stories_18 (c_X0_in _ _ _) (by first | decide | omega) ?_
    refine v_if_ne (tgt := 26) dX0_stories_21 (by decide) (fun b21 => ?_) (fun b21 => ?_)
    · skip
      simp only [b2i_0, b2i_n0, b2c_0, b2c_n0, Classical.not_not] at b21
      refine v_iconst (v := 0) dX0_stories_26 (by decide) ?_
      refine v_istore dX0_stories_27 (by decide) ?_
      refine v_iconst (v := 0) dX0_stories_29 (by decide) ?_
      refine v_istore dX0_stories_30 (by decide) ?_
      refine v_iconst (v := 0) dX0_stories_32 (by decide) ?_
      refine v_istore dX0_stories_33 (by decide) ?_
      refine v_iconst (v := 0) dX0_stories_35 (by decide) ?_
      refine v_istore dX0_stories_36 (by decide) ?_
      refine v_loc2 (by repeat' (first | with_reducible exact lsub_n | with_reducible refine lsub_c ?_ ?_ | with_reducible refine lk_hit ?_ | with_reducible refine lk_miss (by decide) ?_ ?_ | (first | exact rfl | exact congrArg (fun z => Value.int (nI z)) (sc_n (fun q _ z => z.elim (fun ⟨i, y, _⟩ => absurd y (Nat.not_lt_zero i)) (fun y => absurd y.1 (Nat.not_lt_zero q)))).symm | exact congrArg (fun z => Value.int (nI z)) (sc_n (fun i _ z => z.elim (fun y => absurd y.1 (Nat.not_lt_zero i)) (fun ⟨_, q, y, _⟩ => absurd y (Nat.not_lt_zero q)))).symm))) (v_lp2 (fun (w : Nat) (hh : AH) => nW - w) (fun (w : Nat) (hh : AH) => w ≤ nW ∧ R9_ 0 h hh) (fun (w : Nat) (hh : AH) => [(0, .ref 30), (1, .int (nI k)), (2, .int b), (3, .int y), (4, .ref (fR k)), (5, .int (nI (tc_ (fun w p => sta_ A C nC sN 0 N K Z M T k w p b) sN w))), (6, .int (nI (sc_ (fun q => (∃ i, i < w ∧ sta_ A C nC sN 0 N K Z M T k i q b) ∨ (q < 0 ∧ sta_ A C nC sN 0 N K Z M T k w q b)) sN))), (7, .int (nI (sc_ (fun i => (i < w ∧ ∃ q, q < sN ∧ sta_ A C nC sN 0 N K Z M T k i q b) ∨ (i = w ∧ ∃ q, q < 0 ∧ sta_ A C nC sN 0 N K Z M T k w q b)) nW))), (8, .int (nI w))]) (fun (w : Nat) (hh : AH) => hh) ?_ 0 _ ⟨Nat.zero_le _, R9_rf⟩)
      clear hX hS hCA hCE hWR hWA hWE9
      intro w hh ⟨hI1, hRh⟩ IH
      have hqx := XQ_R9 hq hRh hkd
      have hWSx := WS_R9 hWS hRh hkd hk0
      have hkx := R9_kd hRh hkd
      have hq9 := hqx
      obtain ⟨hX, hS, ⟨DC, cC, fC, hCA, hCE⟩, -, -⟩ := hq9
      have hWS9 := hWSx
      obtain ⟨-, -, LW, DW, cW, fW, hWR, hWA, hWE9⟩ := hWS9
      have hE := CA_J hE0 (R9_FR hRh) hkd (NJ_94 hk0)
      refine v_iload dX0_stories_38 rfl ?_
      refine v_aload_n dX0_stories_40 rfl rfl ?_
      refine v_getR fX0_49 dX0_stories_41 hX.1 hWR ?_
      refine v_pV mtJ2_size q481 q482 q483 rfl (by decide) dX0_stories_44 (c_J2_size hWA) (hWA).1 (by first | decide | omega) ?_
      refine v_icmp_ge (tgt := 121) dX0_stories_47 (by decide) (fun b47 => ?_) (fun b47 => ?_)
      · skip
        rw [nI_leI (by omega) (by omega)] at b47
        have hkw2 : nW = w := by omega
        subst hkw2
        refine v_iload_n dX0_stories_121 rfl rfl ?_
        refine v_if_ne (tgt := 130) dX0_stories_122 (by decide) (fun b122 => ?_) (fun b122 => ?_)
        · skip
          refine v_iload_n dX0_stories_130 rfl rfl ?_
          refine v_iconst (v := nI 1) dX0_stories_131 (by decide) ?_
          refine v_icmp_ne (tgt := 140) dX0_stories_132 (by decide) (fun b132 => ?_) (fun b132 => ?_)
          · skip
            refine v_iload dX0_stories_140 rfl ?_
            refine v_reti dX0_stories_142 rfl ⟨congrArg (fun z => some (Value.int z)) ?_, hRh⟩
            unfold an_stories
            rw [cf_t ⟨hx0, b21⟩, nI_clamp (by omega)]
            (try rw [show (nI 1 : Int32) = 1 from rfl] at b132)
            first | (rw [cf_t b122]) | (rw [cf_f b122, cf_t b132]; exact congrArg nI (sc_cg fun q hq => ⟨fun z => z.elim id (fun y => absurd y.1 (Nat.not_lt_zero q)), Or.inl⟩)) | (rw [cf_f b122, cf_f b132]; exact congrArg nI (sc_cg fun i hi => ⟨fun z => z.elim (fun y => y.2) (fun ⟨_, q, y, _⟩ => absurd y (Nat.not_lt_zero q)), fun z => Or.inl ⟨hi, z⟩⟩))
          · skip
            refine v_iload dX0_stories_135 rfl ?_
            refine v_goto (tgt := 142) dX0_stories_137 (by decide) ?_
            refine v_reti dX0_stories_142 rfl ⟨congrArg (fun z => some (Value.int z)) ?_, hRh⟩
            unfold an_stories
            rw [cf_t ⟨hx0, b21⟩, nI_clamp (by omega)]
            (try rw [show (nI 1 : Int32) = 1 from rfl] at b132)
            first | (rw [cf_t b122]) | (rw [cf_f b122, cf_t b132]; exact congrArg nI (sc_cg fun q hq => ⟨fun z => z.elim id (fun y => absurd y.1 (Nat.not_lt_zero q)), Or.inl⟩)) | (rw [cf_f b122, cf_f b132]; exact congrArg nI (sc_cg fun i hi => ⟨fun z => z.elim (fun y => y.2) (fun ⟨_, q, y, _⟩ => absurd y (Nat.not_lt_zero q)), fun z => Or.inl ⟨hi, z⟩⟩))
        · skip
          refine v_iload dX0_stories_125 rfl ?_
          refine v_goto (tgt := 142) dX0_stories_127 (by decide) ?_
          refine v_reti dX0_stories_142 rfl ⟨congrArg (fun z => some (Value.int z)) ?_, hRh⟩
          unfold an_stories
          rw [cf_t ⟨hx0, b21⟩, nI_clamp (by omega)]
          (try rw [show (nI 1 : Int32) = 1 from rfl] at b132)
          first | (rw [cf_t b122]) | (rw [cf_f b122, cf_t b132]; exact congrArg nI (sc_cg fun q hq => ⟨fun z => z.elim id (fun y => absurd y.1 (Nat.not_lt_zero q)), Or.inl⟩)) | (rw [cf_f b122, cf_f b132]; exact congrArg nI (sc_cg fun i hi => ⟨fun z => z.elim (fun y => y.2) (fun ⟨_, q, y, _⟩ => absurd y (Nat.not_lt_zero q)), fun z => Or.inl ⟨hi, z⟩⟩))
      · skip
        rw [nI_leI (by omega) (by omega)] at b47
        have hkw : w < nW := by omega
        refine v_iconst (v := 0) dX0_stories_50 (by decide) ?_
        refine v_istore dX0_stories_51 (by decide) ?_
        refine v_loc2 (by repeat' (first | exact trivial | refine And.intro ?_ ?_ | exact rfl)) (v_lp2 (fun (p : Nat) (hi : AH) => sN - p) (fun (p : Nat) (hi : AH) => p ≤ sN ∧ R9_ 0 h hi) (fun (p : Nat) (hi : AH) => [(0, .ref 30), (1, .int (nI k)), (2, .int b), (3, .int y), (4, .ref (fR k)), (5, .int (nI (tc_ (fun w p => sta_ A C nC sN 0 N K Z M T k w p b) sN w + gc_ (fun p => sta_ A C nC sN 0 N K Z M T k w p b) p))), (6, .int (nI (sc_ (fun q => (∃ i, i < w ∧ sta_ A C nC sN 0 N K Z M T k i q b) ∨ (q < p ∧ sta_ A C nC sN 0 N K Z M T k w q b)) sN))), (7, .int (nI (sc_ (fun i => (i < w ∧ ∃ q, q < sN ∧ sta_ A C nC sN 0 N K Z M T k i q b) ∨ (i = w ∧ ∃ q, q < p ∧ sta_ A C nC sN 0 N K Z M T k w q b)) nW))), (8, .int (nI w)), (9, .int (nI p))]) (fun (p : Nat) (hi : AH) => hi) ?_ 0 _ ⟨Nat.zero_le _, hRh⟩)
        clear hX hS hCA hCE hWR hWA hWE9 hE hqx hWSx hkx
        intro p hi ⟨hJ1, hRr⟩ IHj
        have hqx := XQ_R9 hq hRr hkd
        have hWSx := WS_R9 hWS hRr hkd hk0
        have hkx := R9_kd hRr hkd
        have hq9 := hqx
        obtain ⟨hX, hS, ⟨DC, cC, fC, hCA, hCE⟩, -, -⟩ := hq9
        have hWS9 := hWSx
        obtain ⟨-, -, LW, DW, cW, fW, hWR, hWA, hWE9⟩ := hWS9
        have hE := CA_J hE0 (R9_FR hRr) hkd (NJ_94 hk0)
        have htc := tc_le (fun w p => sta_ A C nC sN 0 N K Z M T k w p b) sN w
        have hgc := gc_le (fun p => sta_ A C nC sN 0 N K Z M T k w p b) p
        refine v_iload dX0_stories_53 rfl ?_
        refine v_aload_n dX0_stories_55 rfl rfl ?_
        refine v_getI fX0_25 dX0_stories_56 hX.1 ?_
        rw [hX.2.1]
        refine v_icmp_ge (tgt := 115) dX0_stories_59 (by decide) (fun b59 => ?_) (fun b59 => ?_)
        · skip
          rw [nI_leI (by omega) (by omega)] at b59
          have hkp2 : sN = p := by omega
          subst hkp2
          refine v_iinc dX0_stories_115 rfl (by first | with_reducible exact nI_inc _ | exact rfl) (by decide) ?_
          refine v_goto (tgt := 38) dX0_stories_118 (by decide) ?_
          have eq1 : tc_ (fun w p => sta_ A C nC sN 0 N K Z M T k w p b) sN w + gc_ (fun p => sta_ A C nC sN 0 N K Z M T k w p b) sN = tc_ (fun w p => sta_ A C nC sN 0 N K Z M T k w p b) sN (w + 1) := rfl
          have eq2 : sc_ (fun q => (∃ i, i < w ∧ sta_ A C nC sN 0 N K Z M T k i q b) ∨ (q < sN ∧ sta_ A C nC sN 0 N K Z M T k w q b)) sN = sc_ (fun q => (∃ i, i < (w + 1) ∧ sta_ A C nC sN 0 N K Z M T k i q b) ∨ (q < 0 ∧ sta_ A C nC sN 0 N K Z M T k (w + 1) q b)) sN := sc_cg fun q hq => ⟨fun z => z.elim (fun ⟨i, y1, y2⟩ => Or.inl ⟨i, by omega, y2⟩) (fun y => Or.inl ⟨w, by omega, y.2⟩), fun z => z.elim (fun ⟨i, y1, y2⟩ => (Nat.lt_succ_iff_lt_or_eq.mp y1).elim (fun u => Or.inl ⟨i, u, y2⟩) (fun u => Or.inr ⟨hq, by rw [← u]; exact y2⟩)) (fun y => absurd y.1 (Nat.not_lt_zero q))⟩
          have eq3 : sc_ (fun i => (i < w ∧ ∃ q, q < sN ∧ sta_ A C nC sN 0 N K Z M T k i q b) ∨ (i = w ∧ ∃ q, q < sN ∧ sta_ A C nC sN 0 N K Z M T k w q b)) nW = sc_ (fun i => (i < (w + 1) ∧ ∃ q, q < sN ∧ sta_ A C nC sN 0 N K Z M T k i q b) ∨ (i = (w + 1) ∧ ∃ q, q < 0 ∧ sta_ A C nC sN 0 N K Z M T k (w + 1) q b)) nW := sc_cg fun i hi => ⟨fun z => z.elim (fun y => Or.inl ⟨by omega, y.2⟩) (fun ⟨y1, y2⟩ => Or.inl ⟨by omega, by rw [y1]; exact y2⟩), fun z => z.elim (fun ⟨y1, y2⟩ => (Nat.lt_succ_iff_lt_or_eq.mp y1).elim (fun u => Or.inl ⟨u, y2⟩) (fun u => Or.inr ⟨u, by rw [← u]; exact y2⟩)) (fun ⟨_, q, y, _⟩ => absurd y (Nat.not_lt_zero q))⟩
          refine v_loc2 (by repeat' (first | with_reducible exact lsub_n | with_reducible refine lsub_c ?_ ?_ | with_reducible refine lk_hit ?_ | with_reducible refine lk_miss (by decide) ?_ ?_ | (first | exact rfl | exact congrArg (fun z => Value.int (nI z)) eq1 | exact congrArg (fun z => Value.int (nI z)) eq2 | exact congrArg (fun z => Value.int (nI z)) eq3 | exact congrArg (fun z => some (Value.int (nI z))) eq1 | exact congrArg (fun z => some (Value.int (nI z))) eq2 | exact congrArg (fun z => some (Value.int (nI z))) eq3))) (IH (w + 1) _ ⟨hkw, hRr⟩ (by omega))
        · skip
          rw [nI_leI (by omega) (by omega)] at b59
          have hkp : p < sN := by omega
          refine v_aload dX0_stories_62 rfl ?_
          refine v_aload_n dX0_stories_64 rfl rfl ?_
          refine v_getR fX0_49 dX0_stories_65 hX.1 hWR ?_
          refine v_iload dX0_stories_68 rfl ?_
          refine v_pV mtJ2_get q621 q607 q608 rfl (by decide) dX0_stories_70 (c_J2_get hWA rfl hkw) (hWA).1 (by first | decide | omega) ?_
          refine v_castS (hWE9 _ hkw).1.1 (by decide) rfl q789 dX0_stories_73 ?_
          refine v_iload dX0_stories_76 rfl ?_
          refine v_iload_n dX0_stories_78 rfl rfl ?_
          refine v_zV mtX19_isStory q1376 q1377 q1378 rfl (by decide) dX0_stories_79 (c_X19_isStory (N := N) hqx (hWE9 _ hkw) hRP hkn hE hkp b) hE.1 (by first | decide | omega) (fun r79 h79 q79 z79 => ?_)
          obtain ⟨rfl, hR79⟩ := q79
          have hRn := R9_tr hRr hR79
          refine v_if_ne (tgt := 88) dX0_stories_82 (by decide) (fun b82 => ?_) (fun b82 => ?_)
          · skip
            rw [b2c_n0] at b82
            have eg : gc_ (fun p => sta_ A C nC sN 0 N K Z M T k w p b) (p + 1) = gc_ (fun p => sta_ A C nC sN 0 N K Z M T k w p b) p + 1 := cf_t b82
            have ep : sc_ (fun q => (∃ i, i < w ∧ sta_ A C nC sN 0 N K Z M T k i q b) ∨ (q < p ∧ sta_ A C nC sN 0 N K Z M T k w q b)) sN ||| 2 ^ p = sc_ (fun q => (∃ i, i < w ∧ sta_ A C nC sN 0 N K Z M T k i q b) ∨ (q < (p + 1) ∧ sta_ A C nC sN 0 N K Z M T k w q b)) sN := sc_put hkp fun q hq => ⟨fun z => z.elim (fun y => Or.inl (Or.inl y)) (fun y => (Nat.lt_succ_iff_lt_or_eq.mp y.1).elim (fun u => Or.inl (Or.inr ⟨u, y.2⟩)) Or.inr), fun z => z.elim (fun y => y.elim Or.inl (fun u => Or.inr ⟨by omega, u.2⟩)) (fun u => Or.inr ⟨by omega, by rw [u]; exact b82⟩)⟩
            have ew : sc_ (fun i => (i < w ∧ ∃ q, q < sN ∧ sta_ A C nC sN 0 N K Z M T k i q b) ∨ (i = w ∧ ∃ q, q < p ∧ sta_ A C nC sN 0 N K Z M T k w q b)) nW ||| 2 ^ w = sc_ (fun i => (i < w ∧ ∃ q, q < sN ∧ sta_ A C nC sN 0 N K Z M T k i q b) ∨ (i = w ∧ ∃ q, q < (p + 1) ∧ sta_ A C nC sN 0 N K Z M T k w q b)) nW := sc_put hkw fun q hq => ⟨fun z => z.elim (fun y => Or.inl (Or.inl y)) (fun y => Or.inr y.1), fun z => z.elim (fun y => y.elim Or.inl (fun ⟨y1, q2, y2, y3⟩ => Or.inr ⟨y1, q2, by omega, y3⟩)) (fun u => Or.inr ⟨u, p, by omega, b82⟩)⟩
            refine v_iinc dX0_stories_88 rfl (by first | with_reducible exact nI_inc _ | exact rfl) (by decide) ?_
            refine v_iload dX0_stories_91 rfl ?_
            refine v_iconst (v := 1) dX0_stories_93 (by decide) ?_
            refine v_iload dX0_stories_94 rfl ?_
            refine v_ishl dX0_stories_96 ?_
            refine v_ior dX0_stories_97 ?_
            rw [or_sh (by omega)]
            refine v_istore dX0_stories_98 (by decide) ?_
            refine v_iload dX0_stories_100 rfl ?_
            refine v_iconst (v := 1) dX0_stories_102 (by decide) ?_
            refine v_iload dX0_stories_103 rfl ?_
            refine v_ishl dX0_stories_105 ?_
            refine v_ior dX0_stories_106 ?_
            rw [or_sh (by omega)]
            refine v_istore dX0_stories_107 (by decide) ?_
            refine v_iinc dX0_stories_109 rfl (by first | with_reducible exact nI_inc _ | exact rfl) (by decide) ?_
            refine v_goto (tgt := 53) dX0_stories_112 (by decide) ?_
            refine v_loc2 (by repeat' (first | with_reducible exact lsub_n | with_reducible refine lsub_c ?_ ?_ | with_reducible refine lk_hit ?_ | with_reducible refine lk_miss (by decide) ?_ ?_ | (first | exact rfl | exact congrArg (fun z => Value.int (nI z)) ep | exact congrArg (fun z => Value.int (nI z)) ew | exact congrArg (fun z => some (Value.int (nI z))) ep | exact congrArg (fun z => some (Value.int (nI z))) ew | (rw [eg]; exact rfl)))) (IHj (p + 1) _ ⟨by omega, hRn⟩ (by omega))
          · skip
            rw [b2c_0] at b82
            have eg : gc_ (fun p => sta_ A C nC sN 0 N K Z M T k w p b) (p + 1) = gc_ (fun p => sta_ A C nC sN 0 N K Z M T k w p b) p := cf_f b82
            have ep : sc_ (fun q => (∃ i, i < w ∧ sta_ A C nC sN 0 N K Z M T k i q b) ∨ (q < p ∧ sta_ A C nC sN 0 N K Z M T k w q b)) sN = sc_ (fun q => (∃ i, i < w ∧ sta_ A C nC sN 0 N K Z M T k i q b) ∨ (q < (p + 1) ∧ sta_ A C nC sN 0 N K Z M T k w q b)) sN := sc_cg fun q hq => ⟨fun z => z.elim Or.inl (fun y => Or.inr ⟨by omega, y.2⟩), fun z => z.elim Or.inl (fun y => Or.inr ⟨Nat.lt_of_le_of_ne (by omega) (fun u => b82 (by rw [← u]; exact y.2)), y.2⟩)⟩
            have ew : sc_ (fun i => (i < w ∧ ∃ q, q < sN ∧ sta_ A C nC sN 0 N K Z M T k i q b) ∨ (i = w ∧ ∃ q, q < p ∧ sta_ A C nC sN 0 N K Z M T k w q b)) nW = sc_ (fun i => (i < w ∧ ∃ q, q < sN ∧ sta_ A C nC sN 0 N K Z M T k i q b) ∨ (i = w ∧ ∃ q, q < (p + 1) ∧ sta_ A C nC sN 0 N K Z M T k w q b)) nW := sc_cg fun q hq => ⟨fun z => z.elim Or.inl (fun ⟨y1, q2, y2, y3⟩ => Or.inr ⟨y1, q2, by omega, y3⟩), fun z => z.elim Or.inl (fun ⟨y1, q2, y2, y3⟩ => Or.inr ⟨y1, q2, Nat.lt_of_le_of_ne (by omega) (fun u => b82 (by rw [← u]; exact y3)), y3⟩)⟩
            refine v_goto (tgt := 109) dX0_stories_85 (by decide) ?_
            refine v_iinc dX0_stories_109 rfl (by first | with_reducible exact nI_inc _ | exact rfl) (by decide) ?_
            refine v_goto (tgt := 53) dX0_stories_112 (by decide) ?_
            refine v_loc2 (by repeat' (first | with_reducible exact lsub_n | with_reducible refine lsub_c ?_ ?_ | with_reducible refine lk_hit ?_ | with_reducible refine lk_miss (by decide) ?_ ?_ | (first | exact rfl | exact congrArg (fun z => Value.int (nI z)) ep | exact congrArg (fun z => Value.int (nI z)) ew | exact congrArg (fun z => some (Value.int (nI z))) ep | exact congrArg (fun z => some (Value.int (nI z))) ew | (rw [eg]; exact rfl)))) (IHj (p + 1) _ ⟨by omega, hRn⟩ (by omega))
    · skip
      simp only [b2i_0, b2i_n0, b2c_0, b2c_n0, Classical.not_not] at b21
      refine v_iconst (v := (-1)) dX0_stories_24 (by decide) ?_
      refine v_reti dX0_stories_25 rfl ⟨congrArg (fun z => some (Value.int z)) ?_, R9_rf⟩
      unfold an_stories
      first | rw [cf_f (fun z => hx0 z.1)] | rw [cf_f (fun z => b21 z.2)]
  · skip
    refine v_aload_n dX0_stories_0 rfl rfl ?_
    refine v_iload_n dX0_stories_1 rfl rfl ?_
    refine v_pV mtX0_came q1372 q1374 qs45 rfl (by decide) dX0_stories_2 (c_X0_camef hq hRP hRA hRE hN hx0) hX.1 (by first | decide | omega) ?_
    refine v_astoreN dX0_stories_5 (by decide) ?_
    refine v_aloadN dX0_stories_7 rfl ?_
    refine v_ifnullN (tgt := 24) dX0_stories_9 (by decide) ?_
    refine v_iconst (v := (-1)) dX0_stories_24 (by decide) ?_
    refine v_reti dX0_stories_25 rfl ⟨congrArg (fun z => some (Value.int z)) ?_, R9_rf⟩
    unfold an_stories
    first | rw [cf_f (fun z => hx0 z.1)] | rw [cf_f (fun z => b21 z.2)]

noncomputable def lxa_ (A : Nat → Int32) (C : Nat → Nat → Int32) (sN nC : Nat) (T : Nat → Int32) (r : Nat) : Nat → Int32 × Int32 × Nat := lt_ (fun i => rc_ sN (i / 2) (wh_ A (T (7 * r + 2)).toNatClampNeg (T (7 * r + 4)) (nMov A)).toNatClampNeg ∧ rc_ sN (i / 2) (T (7 * r + 3)).toNatClampNeg) (fun i t => on_ (vo_ A C nC sN 0 2870 i t)) (2 * sN) (T (7 * r + 4)).toNatClampNeg
noncomputable def an_least (A : Nat → Int32) (C : Nat → Nat → Int32) (nC sN : Nat) (N K Z M T : Nat → Int32) (nW nR : Nat) (r x : Int32) : Int32 := cf_ (((0 ≤ r ∧ r < nI nR) ∧ T (7 * r.toNatClampNeg + 1) = 0) ∧ (0 ≤ x ∧ x ≤ 2) ∧ (T (7 * r.toNatClampNeg + 2)).toNatClampNeg < nLaid A) (cf_ (∃ w, w < nW ∧ ∃ p, p < sN ∧ stb_ A C nC sN 0 N K Z M T r.toNatClampNeg w p 0) (-1)
    (lz_ (lxa_ A C sN nC T r.toNatClampNeg ((T (7 * r.toNatClampNeg + 5)).toNatClampNeg + 1 - (T (7 * r.toNatClampNeg + 4)).toNatClampNeg)) x)) (-1)
theorem gc_0 {U : Nat → Prop} : ∀ {n : Nat}, gc_ U n = 0 ↔ ∀ k, k < n → ¬ U k
  | 0 => ⟨fun _ k h => absurd h (Nat.not_lt_zero k), fun _ => rfl⟩
  | n + 1 => by
    rw [gc_s]
    by_cases z : U n
    · rw [cf_t z]; exact ⟨fun y => absurd y (by omega), fun y => absurd z (y n (Nat.lt_succ_self n))⟩
    · rw [cf_f z, gc_0]; exact ⟨fun y k hk => (Nat.lt_succ_iff_lt_or_eq.mp hk).elim (y k) (fun e => by rw [e]; exact z), fun y k hk => y k (by omega)⟩
theorem tc_0 {P : Nat → Nat → Prop} {sN : Nat} : ∀ {n : Nat}, tc_ P sN n = 0 ↔ ∀ w, w < n → ∀ p, p < sN → ¬ P w p
  | 0 => ⟨fun _ k h => absurd h (Nat.not_lt_zero k), fun _ => rfl⟩
  | n + 1 => by
    rw [tc_s]
    constructor
    · intro y w hw
      rcases Nat.lt_succ_iff_lt_or_eq.mp hw with e | e
      · exact tc_0.mp (by omega) w e
      · rw [e]; exact gc_0.mp (by omega)
    · intro y
      have h1 := tc_0.mpr (fun w hw => y w (by omega) : ∀ w, w < n → ∀ p, p < sN → ¬ P w p)
      have h2 := gc_0.mpr (y n (Nat.lt_succ_self n))
      omega
/-- how the class keeps the fewest -/
def lv9_ (q : Int32 × Int32 × Nat) (v : Int32) : Prop := (q.1 = -1 ∧ q.2.1 = -1 ∧ v = 0 ∧ q.2.2 = 100) ∨ (¬ q.1 = -1 ∧ v = nI q.2.2)
set_option maxHeartbeats 2000000 in
theorem c_X0_least {G : Gv} {h : AH} {b nC sN : Nat} {A : Nat → Int32} {C : Nat → Nat → Int32} (hq : XQ_ h b A C nC sN 0) {T : Nat → Int32} {nR : Nat} (hRP : rp_ok T nR sN) {DR cR : Nat} {fR : Nat → Nat} (hRA : AL_ h 96 DR cR nR fR) (hRE : ∀ r, r < nR → RE_ h (fR r) T r) {N K Z M : Nat → Int32} {nW : Nat} (hWS : WS_ h N K Z M nW) (hN : gn_ok G) (x y : Int32) : Ctr G 19 yX0_least cX0_least 11 (some .int) [.ref 30, .int x, .int y] h 0 0 (fun r9 h1 => r9 = some (.int (an_least A C nC sN N K Z M T nW nR x y)) ∧ R9_ 0 h h1) := by
  refine ctr_of (own := RX0) (nm := "least") (by decide) (Nat.le_of_ble_eq_true rfl) ?_
  refine v_kd fun hkd => ?_
  have hq9 := hq
  obtain ⟨hX, hS, ⟨DC, cC, fC, hCA, hCE⟩, hv, hc⟩ := hq9
  have h39 := sv_s hv
  have hWS9 := hWS
  obtain ⟨hW8, hWN, LW, DW, cW, fW, hWR, hWA, hWE9⟩ := hWS9
  have h8 := hc.1
  have hk0 := xc_run hX.2.2.2.2
  have hR30 := hRP.1
  have hlaid := sv_laid hv
  by_cases hx0 : (0 ≤ x ∧ x < nI nR) ∧ T (7 * x.toNatClampNeg + 1) = 0
  · skip
    have hx0c := hx0
    obtain ⟨rn, hrn, rfl⟩ := nI_rng hx0c.1 (by omega)
    have h0 := hx0.2
    rw [nI_clamp (by omega)] at h0
    have hE0 := (hRE rn hrn).resolve_right (fun z => absurd (h0.symm.trans z.2.2.2.2) (by decide))
    have hE := hE0
    obtain ⟨⟨pn, hpn, e0⟩, ek, ⟨an, bn, hab, hbn, e4, e5⟩, ⟨dn, hdn, e6⟩⟩ := hRP.2 rn hrn
    obtain ⟨-, ⟨tn, htn, e2⟩, ⟨xn, hxn, e3⟩⟩ := ek.resolve_right (fun z => by rw [h0] at z; exact absurd z.1 (by decide))
    have eT : (T (7 * rn + 2)).toNatClampNeg = tn ∧ (T (7 * rn + 3)).toNatClampNeg = xn ∧ (T (7 * rn + 4)).toNatClampNeg = an ∧ (T (7 * rn + 5)).toNatClampNeg = bn := ⟨by rw [e2, nI_clamp (by omega)], by rw [e3, nI_clamp (by omega)], by rw [e4, nI_clamp (by omega)], by rw [e5, nI_clamp (by omega)]⟩
    refine v_aload_n dX0_least_0 rfl rfl ?_
    refine v_iload_n dX0_least_1 rfl rfl ?_
    refine v_pV mtX0_came q1372 q1374 qs45 rfl (by decide) dX0_least_2 (c_X0_camet hq hRP hRA hRE hrn h0) hX.1 (by first | decide | omega) ?_
    refine v_astore_n dX0_least_5 rfl (by decide) ?_
    refine v_aload_n dX0_least_6 rfl rfl ?_
    refine v_ifnull dX0_least_7 ?_
    refine v_iload_n dX0_least_10 rfl rfl ?_
    refine v_i2l dX0_least_11 ?_
    refine v_lconst (v := (0 : Int32).toInt64) dX0_least_12 (by decide) ?_
    refine v_ldc2 (v := (2 : Int32).toInt64) q695 dX0_least_13 (by decide) ?_
    refine v_pS mtX0_in q162 q163 dX0_least_16 (c_X0_in _ _ _) (by first | decide | omega) ?_
    refine v_if_eq (tgt := 43) dX0_least_19 (by decide) (fun b19 => ?_) (fun b19 => ?_)
    · skip
      simp only [b2i_0, b2i_n0, b2c_0, b2c_n0, Classical.not_not] at b19
      refine v_iconst (v := (-1)) dX0_least_43 (by decide) ?_
      first | refine v_reti dX0_least_44 rfl ⟨congrArg (fun z => some (Value.int z)) ?_, hR37⟩ | refine v_reti dX0_least_44 rfl ⟨congrArg (fun z => some (Value.int z)) ?_, R9_rf⟩
      unfold an_least
      first | rw [cf_f (fun z => hx0 z.1)] | rw [cf_f (fun z => b19 z.2.1)] | rw [cf_f (fun z => hnt (by have := z.2.2; rw [nI_clamp (by omega), eT.1] at this; exact this))] | (rw [cf_t ⟨hx0, b19, by rw [nI_clamp (by omega), eT.1]; exact hnt⟩, nI_clamp (by omega), cf_t hyes])
    · skip
      simp only [b2i_0, b2i_n0, b2c_0, b2c_n0, Classical.not_not] at b19
      refine v_aload_n dX0_least_22 rfl rfl ?_
      refine v_aload_n dX0_least_23 rfl rfl ?_
      refine v_getI fX0_402 dX0_least_24 hE.1 ?_
      rw [hE.2.2.1, e2]
      refine v_pV mtX0_isThing q597 q599 qs9 rfl (by decide) dX0_least_27 (c_X0_isThing hX hS (sv_laid hv).2 (sv_laid hv).1 _) hX.1 (by first | decide | omega) ?_
      refine v_if_eq (tgt := 43) dX0_least_30 (by decide) (fun b30 => ?_) (fun b30 => ?_)
      · skip
        rw [b2i_0, hlaid.2] at b30
        have hnt : ¬ tn < nLaid A := fun z => b30 ⟨Int32.not_lt.mp (nI_pos (by omega)), (nI_ltI (by omega) (by omega)).mpr z⟩
        refine v_iconst (v := (-1)) dX0_least_43 (by decide) ?_
        first | refine v_reti dX0_least_44 rfl ⟨congrArg (fun z => some (Value.int z)) ?_, hR37⟩ | refine v_reti dX0_least_44 rfl ⟨congrArg (fun z => some (Value.int z)) ?_, R9_rf⟩
        unfold an_least
        first | rw [cf_f (fun z => hx0 z.1)] | rw [cf_f (fun z => b19 z.2.1)] | rw [cf_f (fun z => hnt (by have := z.2.2; rw [nI_clamp (by omega), eT.1] at this; exact this))] | (rw [cf_t ⟨hx0, b19, by rw [nI_clamp (by omega), eT.1]; exact hnt⟩, nI_clamp (by omega), cf_t hyes])
      · skip
        rw [b2i_n0, hlaid.2] at b30
        have hnt : tn < nLaid A := (nI_ltI (by omega) (by omega)).mp b30.2
        have htl := tc_le (fun w p => sta_ A C nC sN 0 N K Z M T rn w p 0) sN nW
        have htl2 : sN * nW ≤ 9 * 8 := Nat.mul_le_mul h39.2 hW8
        refine v_aload_n dX0_least_33 rfl rfl ?_
        refine v_iload_n dX0_least_34 rfl rfl ?_
        refine v_iconst (v := nI 0) dX0_least_35 (by decide) ?_
        refine v_iconst (v := nI 0) dX0_least_36 (by decide) ?_
        refine v_zV mtX0_stories q1386 q1369 q1370 rfl (by decide) dX0_least_37 (c_X0_stories hq hRP hRA hRE hWS hN (nI rn) (nI 0) (nI 0)) hX.1 (by first | decide | omega) (fun r37 h37 q37 z37 => ?_)
        obtain ⟨rfl, hR37⟩ := q37
        have hst : an_stories A C nC sN 0 N K Z M T nW nR (nI rn) (nI 0) (nI 0) = nI (tc_ (fun w p => sta_ A C nC sN 0 N K Z M T rn w p 0) sN nW) := by unfold an_stories; rw [cf_t ⟨hx0, by decide, by decide⟩, cf_t (show (nI 0 : Int32) = 0 from rfl), nI_clamp (by omega)]; rfl
        rw [hst]
        have hqx := hq
        refine v_if_le (tgt := 45) dX0_least_40 (by decide) (fun b40 => ?_) (fun b40 => ?_)
        · skip
          have b40 := (nI_leI (b := 0) (by omega) (by decide)).mp b40
          have htz : tc_ (fun w p => sta_ A C nC sN 0 N K Z M T rn w p 0) sN nW = 0 := by omega
          have hqx := XQ_R9 hq hR37 hkd
          have hWSx := WS_R9 hWS hR37 hkd hk0
          have hkx := R9_kd hR37 hkd
          have hq9 := hqx
          obtain ⟨hX, hS, ⟨DC, cC, fC, hCA, hCE⟩, -, -⟩ := hq9
          have hWS9 := hWSx
          obtain ⟨-, -, LW, DW, cW, fW, hWR, hWA, hWE9⟩ := hWS9
          have hE := CA_J hE0 (R9_FR hR37) hkd (NJ_94 hk0)
          obtain ⟨x0, hx9, ex0⟩ := wh_in (s := nI an) hv hnt (nMov A) (Nat.le_refl _)
          have hWm : ∀ m, m < nMov A → (A (4680 + 5 * m + 3) ≤ nI an - 1 ↔ A (4680 + 5 * m + 3) < nI an) := fun m hm => by
              obtain ⟨j, hj, ej⟩ := (sv_move hv hm).2.2.2.1
              rw [ej]; exact le_pr (by omega) (by omega)
          refine v_aload_n dX0_least_45 rfl rfl ?_
          refine v_getR fX0_32 dX0_least_46 hX.1 hX.2.2.1 ?_
          refine v_aload_n dX0_least_49 rfl rfl ?_
          refine v_getI fX0_402 dX0_least_50 hE.1 ?_
          rw [hE.2.2.1, e2]
          refine v_aload_n dX0_least_53 rfl rfl ?_
          refine v_getI fX0_407 dX0_least_54 hE.1 ?_
          rw [hE.2.1.2.1, e4]
          refine v_iconst (v := 1) dX0_least_57 (by decide) ?_
          refine v_isub dX0_least_58 ?_
          refine v_pV mtX1_where q601 q602 q603 rfl (by decide) dX0_least_59 (c_X1_where (th := tn) (s := nI an - 1) (s1 := nI an) hS hv (by omega) hWm) (si_K hS) (by first | decide | omega) ?_
          rw [ex0]
          refine v_istore dX0_least_62 (by decide) ?_
          refine v_iconst (v := (-1)) dX0_least_64 (by decide) ?_
          refine v_istore dX0_least_65 (by decide) ?_
          refine v_iconst (v := (-1)) dX0_least_67 (by decide) ?_
          refine v_istore dX0_least_68 (by decide) ?_
          refine v_iconst (v := 0) dX0_least_70 (by decide) ?_
          refine v_istore dX0_least_71 (by decide) ?_
          refine v_aload_n dX0_least_73 rfl rfl ?_
          refine v_getI fX0_407 dX0_least_74 hE.1 ?_
          rw [hE.2.1.2.1, e4]
          refine v_istore dX0_least_77 (by decide) ?_
          refine v_loc2 (by repeat' (first | exact trivial | refine And.intro ?_ ?_ | exact rfl)) (v_lp2 (fun (k : Nat) (v : Int32) => bn + 1 - an - k) (fun (k : Nat) (v : Int32) => k ≤ bn + 1 - an ∧ lv9_ (lt_ (fun i => rc_ sN (i / 2) x0 ∧ rc_ sN (i / 2) xn) (fun i t => on_ (vo_ A C nC sN 0 2870 i t)) (2 * sN) an k) v) (fun (k : Nat) (v : Int32) => [(0, .ref 30), (1, .int (nI rn)), (2, .int y), (3, .ref (fR rn)), (4, .int (nI x0)), (5, .int (lt_ (fun i => rc_ sN (i / 2) x0 ∧ rc_ sN (i / 2) xn) (fun i t => on_ (vo_ A C nC sN 0 2870 i t)) (2 * sN) an k).1), (6, .int (lt_ (fun i => rc_ sN (i / 2) x0 ∧ rc_ sN (i / 2) xn) (fun i t => on_ (vo_ A C nC sN 0 2870 i t)) (2 * sN) an k).2.1), (7, .int v), (8, .int (nI (an + k)))]) (fun (k : Nat) (v : Int32) => h37) ?_ 0 _ ⟨Nat.zero_le _, Or.inl ⟨rfl, rfl, rfl, rfl⟩⟩)
          intro k v ⟨hK, hv9⟩ IHk
          have hle := lt_le (fun i => rc_ sN (i / 2) x0 ∧ rc_ sN (i / 2) xn) (fun i t => on_ (vo_ A C nC sN 0 2870 i t)) (2 * sN) an k
          refine v_iload dX0_least_79 rfl ?_
          refine v_aload_n dX0_least_81 rfl rfl ?_
          refine v_getI fX0_410 dX0_least_82 hE.1 ?_
          rw [hE.2.1.2.2.1, e5]
          refine v_icmp_gt (tgt := 187) dX0_least_85 (by decide) (fun b85 => ?_) (fun b85 => ?_)
          · skip
            rw [nI_ltI (by omega) (by omega)] at b85
            obtain rfl : k = bn + 1 - an := by omega
            refine v_iload dX0_least_187 rfl ?_
            refine v_iconst (v := (-1)) dX0_least_189 (by decide) ?_
            refine v_icmp_ne (tgt := 197) dX0_least_190 (by decide) (fun b190 => ?_) (fun b190 => ?_)
            · skip
              refine v_iload_n dX0_least_197 rfl rfl ?_
              refine v_if_ne (tgt := 206) dX0_least_198 (by decide) (fun b198 => ?_) (fun b198 => ?_)
              · skip
                refine v_iload_n dX0_least_206 rfl rfl ?_
                refine v_iconst (v := nI 1) dX0_least_207 (by decide) ?_
                refine v_icmp_ne (tgt := 216) dX0_least_208 (by decide) (fun b208 => ?_) (fun b208 => ?_)
                · skip
                  refine v_iload dX0_least_216 rfl ?_
                  refine v_reti dX0_least_218 rfl ⟨congrArg (fun z => some (Value.int z)) ?_, hR37⟩
                  unfold an_least
                  rw [cf_t ⟨hx0, b19, by rw [nI_clamp (by omega), eT.1]; exact hnt⟩, nI_clamp (by omega), cf_f (fun ⟨w, y1, p, y2, y3⟩ => tc_0.mp htz w y1 p y2 (Or.inl y3))]
                  unfold lxa_ lz_
                  rw [eT.1, eT.2.1, eT.2.2.1, eT.2.2.2, e4, ex0, nI_clamp (n := x0) (by omega)]
                  (try rw [show (nI 1 : Int32) = 1 from rfl] at b208)
                  first | (rw [cf_t b190]; done) | (rw [cf_t b190]; exact rfl) | (rw [cf_f b190]; first | (rw [cf_t b198]; done) | (rw [cf_t b198]; exact rfl) | (rw [cf_f b198]; first | (rw [cf_t b208]; done) | (rw [cf_t b208]; exact rfl) | (rw [cf_f b208]; first | exact (hv9.resolve_left (fun z => b190 z.1)).2 | exact (hv9.resolve_left (fun z => b190 z.1)).2.symm)))
                · skip
                  refine v_iload dX0_least_211 rfl ?_
                  refine v_goto (tgt := 218) dX0_least_213 (by decide) ?_
                  refine v_reti dX0_least_218 rfl ⟨congrArg (fun z => some (Value.int z)) ?_, hR37⟩
                  unfold an_least
                  rw [cf_t ⟨hx0, b19, by rw [nI_clamp (by omega), eT.1]; exact hnt⟩, nI_clamp (by omega), cf_f (fun ⟨w, y1, p, y2, y3⟩ => tc_0.mp htz w y1 p y2 (Or.inl y3))]
                  unfold lxa_ lz_
                  rw [eT.1, eT.2.1, eT.2.2.1, eT.2.2.2, e4, ex0, nI_clamp (n := x0) (by omega)]
                  (try rw [show (nI 1 : Int32) = 1 from rfl] at b208)
                  first | (rw [cf_t b190]; done) | (rw [cf_t b190]; exact rfl) | (rw [cf_f b190]; first | (rw [cf_t b198]; done) | (rw [cf_t b198]; exact rfl) | (rw [cf_f b198]; first | (rw [cf_t b208]; done) | (rw [cf_t b208]; exact rfl) | (rw [cf_f b208]; first | exact (hv9.resolve_left (fun z => b190 z.1)).2 | exact (hv9.resolve_left (fun z => b190 z.1)).2.symm)))
              · skip
                refine v_iload dX0_least_201 rfl ?_
                refine v_goto (tgt := 218) dX0_least_203 (by decide) ?_
                refine v_reti dX0_least_218 rfl ⟨congrArg (fun z => some (Value.int z)) ?_, hR37⟩
                unfold an_least
                rw [cf_t ⟨hx0, b19, by rw [nI_clamp (by omega), eT.1]; exact hnt⟩, nI_clamp (by omega), cf_f (fun ⟨w, y1, p, y2, y3⟩ => tc_0.mp htz w y1 p y2 (Or.inl y3))]
                unfold lxa_ lz_
                rw [eT.1, eT.2.1, eT.2.2.1, eT.2.2.2, e4, ex0, nI_clamp (n := x0) (by omega)]
                (try rw [show (nI 1 : Int32) = 1 from rfl] at b208)
                first | (rw [cf_t b190]; done) | (rw [cf_t b190]; exact rfl) | (rw [cf_f b190]; first | (rw [cf_t b198]; done) | (rw [cf_t b198]; exact rfl) | (rw [cf_f b198]; first | (rw [cf_t b208]; done) | (rw [cf_t b208]; exact rfl) | (rw [cf_f b208]; first | exact (hv9.resolve_left (fun z => b190 z.1)).2 | exact (hv9.resolve_left (fun z => b190 z.1)).2.symm)))
            · skip
              refine v_iconst (v := (-1)) dX0_least_193 (by decide) ?_
              refine v_goto (tgt := 218) dX0_least_194 (by decide) ?_
              refine v_reti dX0_least_218 rfl ⟨congrArg (fun z => some (Value.int z)) ?_, hR37⟩
              unfold an_least
              rw [cf_t ⟨hx0, b19, by rw [nI_clamp (by omega), eT.1]; exact hnt⟩, nI_clamp (by omega), cf_f (fun ⟨w, y1, p, y2, y3⟩ => tc_0.mp htz w y1 p y2 (Or.inl y3))]
              unfold lxa_ lz_
              rw [eT.1, eT.2.1, eT.2.2.1, eT.2.2.2, e4, ex0, nI_clamp (n := x0) (by omega)]
              (try rw [show (nI 1 : Int32) = 1 from rfl] at b208)
              first | (rw [cf_t b190]; done) | (rw [cf_t b190]; exact rfl) | (rw [cf_f b190]; first | (rw [cf_t b198]; done) | (rw [cf_t b198]; exact rfl) | (rw [cf_f b198]; first | (rw [cf_t b208]; done) | (rw [cf_t b208]; exact rfl) | (rw [cf_f b208]; first | exact (hv9.resolve_left (fun z => b190 z.1)).2 | exact (hv9.resolve_left (fun z => b190 z.1)).2.symm)))
          · skip
            rw [nI_ltI (by omega) (by omega)] at b85
            have hkb : an + k ≤ bn := by omega
            refine v_iconst (v := 0) dX0_least_88 (by decide) ?_
            refine v_istore dX0_least_89 (by decide) ?_
            refine v_loc2 (by repeat' (first | exact trivial | refine And.intro ?_ ?_ | exact rfl)) (v_lp2 (fun (a : Nat) (v : Int32) => 2 * sN - a) (fun (a : Nat) (v : Int32) => a ≤ 2 * sN ∧ lv9_ (lh_ (fun i => rc_ sN (i / 2) x0 ∧ rc_ sN (i / 2) xn) (fun i => (fun i t => on_ (vo_ A C nC sN 0 2870 i t)) i (an + k)) (an + k) (lt_ (fun i => rc_ sN (i / 2) x0 ∧ rc_ sN (i / 2) xn) (fun i t => on_ (vo_ A C nC sN 0 2870 i t)) (2 * sN) an k) a) v) (fun (a : Nat) (v : Int32) => [(0, .ref 30), (1, .int (nI rn)), (2, .int y), (3, .ref (fR rn)), (4, .int (nI x0)), (5, .int (lh_ (fun i => rc_ sN (i / 2) x0 ∧ rc_ sN (i / 2) xn) (fun i => (fun i t => on_ (vo_ A C nC sN 0 2870 i t)) i (an + k)) (an + k) (lt_ (fun i => rc_ sN (i / 2) x0 ∧ rc_ sN (i / 2) xn) (fun i t => on_ (vo_ A C nC sN 0 2870 i t)) (2 * sN) an k) a).1), (6, .int (lh_ (fun i => rc_ sN (i / 2) x0 ∧ rc_ sN (i / 2) xn) (fun i => (fun i t => on_ (vo_ A C nC sN 0 2870 i t)) i (an + k)) (an + k) (lt_ (fun i => rc_ sN (i / 2) x0 ∧ rc_ sN (i / 2) xn) (fun i t => on_ (vo_ A C nC sN 0 2870 i t)) (2 * sN) an k) a).2.1), (7, .int v), (8, .int (nI (an + k))), (9, .int (nI a))]) (fun (a : Nat) (v : Int32) => h37) ?_ 0 v ⟨Nat.zero_le _, hv9⟩)
            clear hv9
            intro a v ⟨hA9, hv9⟩ IHa
            have hle2 := lh_le (fun i => rc_ sN (i / 2) x0 ∧ rc_ sN (i / 2) xn) (fun i => (fun i t => on_ (vo_ A C nC sN 0 2870 i t)) i (an + k)) (an + k) _ hle a
            have hon := on_le (vo_ A C nC sN 0 2870 a (an + k))
            refine v_iload dX0_least_91 rfl ?_
            refine v_iconst (v := 2) dX0_least_93 (by decide) ?_
            refine v_aload_n dX0_least_94 rfl rfl ?_
            refine v_getI fX0_25 dX0_least_95 hX.1 ?_
            rw [hX.2.1]
            refine v_imul dX0_least_98 ?_
            rw [nI_2]
            refine v_icmp_ge (tgt := 181) dX0_least_99 (by decide) (fun b99 => ?_) (fun b99 => ?_)
            · skip
              rw [nI_leI (by omega) (by omega)] at b99
              obtain rfl : a = 2 * sN := by omega
              refine v_iinc dX0_least_181 rfl (by first | with_reducible exact nI_inc _ | exact rfl) (by decide) ?_
              refine v_goto (tgt := 79) dX0_least_184 (by decide) ?_
              refine v_loc2 (by repeat' (first | with_reducible exact lsub_n | with_reducible refine lsub_c ?_ ?_ | with_reducible refine lk_hit ?_ | with_reducible refine lk_miss (by decide) ?_ ?_ | exact rfl)) (IHk (k + 1) v ⟨by omega, hv9⟩ (by omega))
            · skip
              rw [nI_leI (by omega) (by omega)] at b99
              have hka : a < 2 * sN := by omega
              refine v_aload_n dX0_least_102 rfl rfl ?_
              refine v_iload dX0_least_103 rfl ?_
              refine v_iconst (v := 2) dX0_least_105 (by decide) ?_
              refine v_idiv dX0_least_106 (by decide) ?_
              rw [dv2 (a := a) (by omega)]
              refine v_iload dX0_least_107 rfl ?_
              refine v_pV mtX0_reaches q623 q625 qs10 rfl (by decide) dX0_least_109 (c_X0_reaches (p := a / 2) (x := x0) hX ⟨h39.1, h39.2⟩ (by omega) (by omega)) hX.1 (by first | decide | omega) ?_
              refine v_if_eq (tgt := 175) dX0_least_112 (by decide) (fun b112 => ?_) (fun b112 => ?_)
              · skip
                rw [b2i_0] at b112
                have hq9 : lh_ (fun i => rc_ sN (i / 2) x0 ∧ rc_ sN (i / 2) xn) (fun i => (fun i t => on_ (vo_ A C nC sN 0 2870 i t)) i (an + k)) (an + k) (lt_ (fun i => rc_ sN (i / 2) x0 ∧ rc_ sN (i / 2) xn) (fun i t => on_ (vo_ A C nC sN 0 2870 i t)) (2 * sN) an k) (a + 1) = lh_ (fun i => rc_ sN (i / 2) x0 ∧ rc_ sN (i / 2) xn) (fun i => (fun i t => on_ (vo_ A C nC sN 0 2870 i t)) i (an + k)) (an + k) (lt_ (fun i => rc_ sN (i / 2) x0 ∧ rc_ sN (i / 2) xn) (fun i t => on_ (vo_ A C nC sN 0 2870 i t)) (2 * sN) an k) a := by rw [lh_s]; exact cf_f (fun z => b112 z.2.1)
                have hv9n : lv9_ (lh_ (fun i => rc_ sN (i / 2) x0 ∧ rc_ sN (i / 2) xn) (fun i => (fun i t => on_ (vo_ A C nC sN 0 2870 i t)) i (an + k)) (an + k) (lt_ (fun i => rc_ sN (i / 2) x0 ∧ rc_ sN (i / 2) xn) (fun i t => on_ (vo_ A C nC sN 0 2870 i t)) (2 * sN) an k) (a + 1)) v := by rw [hq9]; exact hv9
                refine v_iinc dX0_least_175 rfl (by first | with_reducible exact nI_inc _ | exact rfl) (by decide) ?_
                refine v_goto (tgt := 91) dX0_least_178 (by decide) ?_
                refine v_loc2 (by repeat' (first | with_reducible exact lsub_n | with_reducible refine lsub_c ?_ ?_ | with_reducible refine lk_hit ?_ | with_reducible refine lk_miss (by decide) ?_ ?_ | (first | exact rfl | (rw [hq9]; done) | (rw [hq9]; exact rfl)))) (IHa (a + 1) _ ⟨hka, hv9n⟩ (by omega))
              · skip
                rw [b2i_n0] at b112
                refine v_aload_n dX0_least_115 rfl rfl ?_
                refine v_iload dX0_least_116 rfl ?_
                refine v_iconst (v := 2) dX0_least_118 (by decide) ?_
                refine v_idiv dX0_least_119 (by decide) ?_
                rw [dv2 (a := a) (by omega)]
                refine v_aload_n dX0_least_120 rfl rfl ?_
                refine v_getI fX0_413 dX0_least_121 hE.1 ?_
                rw [hE.2.2.2.1, e3]
                refine v_pV mtX0_reaches q623 q625 qs10 rfl (by decide) dX0_least_124 (c_X0_reaches (p := a / 2) (x := xn) hX ⟨h39.1, h39.2⟩ (by omega) (by omega)) hX.1 (by first | decide | omega) ?_
                refine v_if_ne (tgt := 133) dX0_least_127 (by decide) (fun b127 => ?_) (fun b127 => ?_)
                · skip
                  rw [b2i_n0] at b127
                  refine v_aload_n dX0_least_133 rfl rfl ?_
                  refine v_iload dX0_least_134 rfl ?_
                  refine v_iload dX0_least_136 rfl ?_
                  refine v_iconst (v := nI 1) dX0_least_138 (by decide) ?_
                  refine v_pV mtX0_vouchers q757 q759 qs17 rfl (by decide) dX0_least_139 (c_X0_vouchers (a := a) (t := an + k) (B := 2870) (tr := nI 1) hqx (Or.inl ⟨by decide, rfl⟩) (by omega) (by omega)) hX.1 (by first | decide | omega) ?_
                  refine v_pS mtJ11_bitCount q1387 q1388 dX0_least_142 (c_J11_bitCount (vo_lt h39.2)) (by first | decide | omega) ?_
                  refine v_istore dX0_least_145 (by decide) ?_
                  refine v_iload dX0_least_147 rfl ?_
                  refine v_iconst (v := (-1)) dX0_least_149 (by decide) ?_
                  refine v_icmp_eq (tgt := 163) dX0_least_150 (by decide) (fun b150 => ?_) (fun b150 => ?_)
                  · skip
                    have hv8 := hv9.resolve_right (fun z => z.1 b150)
                    have hq9 : lh_ (fun i => rc_ sN (i / 2) x0 ∧ rc_ sN (i / 2) xn) (fun i => (fun i t => on_ (vo_ A C nC sN 0 2870 i t)) i (an + k)) (an + k) (lt_ (fun i => rc_ sN (i / 2) x0 ∧ rc_ sN (i / 2) xn) (fun i t => on_ (vo_ A C nC sN 0 2870 i t)) (2 * sN) an k) (a + 1) = (nI a, nI (an + k), (fun i t => on_ (vo_ A C nC sN 0 2870 i t)) a (an + k)) := by rw [lh_s]; exact cf_t ⟨by rw [hv8.2.2.2]; show on_ _ < 100; omega, b112, b127⟩
                    have hv9n : lv9_ (lh_ (fun i => rc_ sN (i / 2) x0 ∧ rc_ sN (i / 2) xn) (fun i => (fun i t => on_ (vo_ A C nC sN 0 2870 i t)) i (an + k)) (an + k) (lt_ (fun i => rc_ sN (i / 2) x0 ∧ rc_ sN (i / 2) xn) (fun i t => on_ (vo_ A C nC sN 0 2870 i t)) (2 * sN) an k) (a + 1)) (nI ((fun i t => on_ (vo_ A C nC sN 0 2870 i t)) a (an + k))) := by rw [hq9]; exact Or.inr ⟨nI_ne1 (by omega), rfl⟩
                    refine v_iload dX0_least_163 rfl ?_
                    refine v_istore dX0_least_165 (by decide) ?_
                    refine v_iload dX0_least_167 rfl ?_
                    refine v_istore dX0_least_169 (by decide) ?_
                    refine v_iload dX0_least_171 rfl ?_
                    refine v_istore dX0_least_173 (by decide) ?_
                    refine v_iinc dX0_least_175 rfl (by first | with_reducible exact nI_inc _ | exact rfl) (by decide) ?_
                    refine v_goto (tgt := 91) dX0_least_178 (by decide) ?_
                    refine v_loc2 (by repeat' (first | with_reducible exact lsub_n | with_reducible refine lsub_c ?_ ?_ | with_reducible refine lk_hit ?_ | with_reducible refine lk_miss (by decide) ?_ ?_ | (first | exact rfl | (rw [hq9]; done) | (rw [hq9]; exact rfl)))) (IHa (a + 1) _ ⟨hka, hv9n⟩ (by omega))
                  · skip
                    have hv8 := hv9.resolve_left (fun z => b150 z.1)
                    refine v_iload dX0_least_153 rfl ?_
                    refine v_iload dX0_least_155 rfl ?_
                    refine v_icmp_lt (tgt := 163) dX0_least_157 (by decide) (fun b157 => ?_) (fun b157 => ?_)
                    · skip
                      rw [hv8.2, nI_ltI (by omega) (by omega)] at b157
                      have hq9 : lh_ (fun i => rc_ sN (i / 2) x0 ∧ rc_ sN (i / 2) xn) (fun i => (fun i t => on_ (vo_ A C nC sN 0 2870 i t)) i (an + k)) (an + k) (lt_ (fun i => rc_ sN (i / 2) x0 ∧ rc_ sN (i / 2) xn) (fun i t => on_ (vo_ A C nC sN 0 2870 i t)) (2 * sN) an k) (a + 1) = (nI a, nI (an + k), (fun i t => on_ (vo_ A C nC sN 0 2870 i t)) a (an + k)) := by rw [lh_s]; exact cf_t ⟨b157, b112, b127⟩
                      have hv9n : lv9_ (lh_ (fun i => rc_ sN (i / 2) x0 ∧ rc_ sN (i / 2) xn) (fun i => (fun i t => on_ (vo_ A C nC sN 0 2870 i t)) i (an + k)) (an + k) (lt_ (fun i => rc_ sN (i / 2) x0 ∧ rc_ sN (i / 2) xn) (fun i t => on_ (vo_ A C nC sN 0 2870 i t)) (2 * sN) an k) (a + 1)) (nI ((fun i t => on_ (vo_ A C nC sN 0 2870 i t)) a (an + k))) := by rw [hq9]; exact Or.inr ⟨nI_ne1 (by omega), rfl⟩
                      refine v_iload dX0_least_163 rfl ?_
                      refine v_istore dX0_least_165 (by decide) ?_
                      refine v_iload dX0_least_167 rfl ?_
                      refine v_istore dX0_least_169 (by decide) ?_
                      refine v_iload dX0_least_171 rfl ?_
                      refine v_istore dX0_least_173 (by decide) ?_
                      refine v_iinc dX0_least_175 rfl (by first | with_reducible exact nI_inc _ | exact rfl) (by decide) ?_
                      refine v_goto (tgt := 91) dX0_least_178 (by decide) ?_
                      refine v_loc2 (by repeat' (first | with_reducible exact lsub_n | with_reducible refine lsub_c ?_ ?_ | with_reducible refine lk_hit ?_ | with_reducible refine lk_miss (by decide) ?_ ?_ | (first | exact rfl | (rw [hq9]; done) | (rw [hq9]; exact rfl)))) (IHa (a + 1) _ ⟨hka, hv9n⟩ (by omega))
                    · skip
                      rw [hv8.2, nI_ltI (by omega) (by omega)] at b157
                      have hq9 : lh_ (fun i => rc_ sN (i / 2) x0 ∧ rc_ sN (i / 2) xn) (fun i => (fun i t => on_ (vo_ A C nC sN 0 2870 i t)) i (an + k)) (an + k) (lt_ (fun i => rc_ sN (i / 2) x0 ∧ rc_ sN (i / 2) xn) (fun i t => on_ (vo_ A C nC sN 0 2870 i t)) (2 * sN) an k) (a + 1) = lh_ (fun i => rc_ sN (i / 2) x0 ∧ rc_ sN (i / 2) xn) (fun i => (fun i t => on_ (vo_ A C nC sN 0 2870 i t)) i (an + k)) (an + k) (lt_ (fun i => rc_ sN (i / 2) x0 ∧ rc_ sN (i / 2) xn) (fun i t => on_ (vo_ A C nC sN 0 2870 i t)) (2 * sN) an k) a := by rw [lh_s]; exact cf_f (fun z => b157 z.1)
                      have hv9n : lv9_ (lh_ (fun i => rc_ sN (i / 2) x0 ∧ rc_ sN (i / 2) xn) (fun i => (fun i t => on_ (vo_ A C nC sN 0 2870 i t)) i (an + k)) (an + k) (lt_ (fun i => rc_ sN (i / 2) x0 ∧ rc_ sN (i / 2) xn) (fun i t => on_ (vo_ A C nC sN 0 2870 i t)) (2 * sN) an k) (a + 1)) v := by rw [hq9]; exact hv9
                      refine v_goto (tgt := 175) dX0_least_160 (by decide) ?_
                      refine v_iinc dX0_least_175 rfl (by first | with_reducible exact nI_inc _ | exact rfl) (by decide) ?_
                      refine v_goto (tgt := 91) dX0_least_178 (by decide) ?_
                      refine v_loc2 (by repeat' (first | with_reducible exact lsub_n | with_reducible refine lsub_c ?_ ?_ | with_reducible refine lk_hit ?_ | with_reducible refine lk_miss (by decide) ?_ ?_ | (first | exact rfl | (rw [hq9]; done) | (rw [hq9]; exact rfl)))) (IHa (a + 1) _ ⟨hka, hv9n⟩ (by omega))
                · skip
                  rw [b2i_0] at b127
                  have hq9 : lh_ (fun i => rc_ sN (i / 2) x0 ∧ rc_ sN (i / 2) xn) (fun i => (fun i t => on_ (vo_ A C nC sN 0 2870 i t)) i (an + k)) (an + k) (lt_ (fun i => rc_ sN (i / 2) x0 ∧ rc_ sN (i / 2) xn) (fun i t => on_ (vo_ A C nC sN 0 2870 i t)) (2 * sN) an k) (a + 1) = lh_ (fun i => rc_ sN (i / 2) x0 ∧ rc_ sN (i / 2) xn) (fun i => (fun i t => on_ (vo_ A C nC sN 0 2870 i t)) i (an + k)) (an + k) (lt_ (fun i => rc_ sN (i / 2) x0 ∧ rc_ sN (i / 2) xn) (fun i t => on_ (vo_ A C nC sN 0 2870 i t)) (2 * sN) an k) a := by rw [lh_s]; exact cf_f (fun z => b127 z.2.2)
                  have hv9n : lv9_ (lh_ (fun i => rc_ sN (i / 2) x0 ∧ rc_ sN (i / 2) xn) (fun i => (fun i t => on_ (vo_ A C nC sN 0 2870 i t)) i (an + k)) (an + k) (lt_ (fun i => rc_ sN (i / 2) x0 ∧ rc_ sN (i / 2) xn) (fun i t => on_ (vo_ A C nC sN 0 2870 i t)) (2 * sN) an k) (a + 1)) v := by rw [hq9]; exact hv9
                  refine v_goto (tgt := 175) dX0_least_130 (by decide) ?_
                  refine v_iinc dX0_least_175 rfl (by first | with_reducible exact nI_inc _ | exact rfl) (by decide) ?_
                  refine v_goto (tgt := 91) dX0_least_178 (by decide) ?_
                  refine v_loc2 (by repeat' (first | with_reducible exact lsub_n | with_reducible refine lsub_c ?_ ?_ | with_reducible refine lk_hit ?_ | with_reducible refine lk_miss (by decide) ?_ ?_ | (first | exact rfl | (rw [hq9]; done) | (rw [hq9]; exact rfl)))) (IHa (a + 1) _ ⟨hka, hv9n⟩ (by omega))
        · skip
          have b40 := fun z => b40 ((nI_leI (b := 0) (by omega) (by decide)).mpr z)
          have hyes : ∃ w, w < nW ∧ ∃ p, p < sN ∧ stb_ A C nC sN 0 N K Z M T rn w p 0 := Classical.byContradiction fun z => b40 (by rw [tc_0.mpr (fun w hw p hp y => z ⟨w, hw, p, hp, y.elim id (fun u => absurd rfl u.1)⟩)]; exact Nat.le_refl _)
          refine v_iconst (v := (-1)) dX0_least_43 (by decide) ?_
          first | refine v_reti dX0_least_44 rfl ⟨congrArg (fun z => some (Value.int z)) ?_, hR37⟩ | refine v_reti dX0_least_44 rfl ⟨congrArg (fun z => some (Value.int z)) ?_, R9_rf⟩
          unfold an_least
          first | rw [cf_f (fun z => hx0 z.1)] | rw [cf_f (fun z => b19 z.2.1)] | rw [cf_f (fun z => hnt (by have := z.2.2; rw [nI_clamp (by omega), eT.1] at this; exact this))] | (rw [cf_t ⟨hx0, b19, by rw [nI_clamp (by omega), eT.1]; exact hnt⟩, nI_clamp (by omega), cf_t hyes])
  · skip
    refine v_aload_n dX0_least_0 rfl rfl ?_
    refine v_iload_n dX0_least_1 rfl rfl ?_
    refine v_pV mtX0_came q1372 q1374 qs45 rfl (by decide) dX0_least_2 (c_X0_camef hq hRP hRA hRE hN hx0) hX.1 (by first | decide | omega) ?_
    refine v_astore_nN dX0_least_5 rfl (by decide) ?_
    refine v_aload_nN dX0_least_6 rfl rfl ?_
    refine v_ifnullN (tgt := 43) dX0_least_7 (by decide) ?_
    refine v_iconst (v := (-1)) dX0_least_43 (by decide) ?_
    first | refine v_reti dX0_least_44 rfl ⟨congrArg (fun z => some (Value.int z)) ?_, hR37⟩ | refine v_reti dX0_least_44 rfl ⟨congrArg (fun z => some (Value.int z)) ?_, R9_rf⟩
    unfold an_least
    first | rw [cf_f (fun z => hx0 z.1)] | rw [cf_f (fun z => b19 z.2.1)] | rw [cf_f (fun z => hnt (by have := z.2.2; rw [nI_clamp (by omega), eT.1] at this; exact this))] | (rw [cf_t ⟨hx0, b19, by rw [nI_clamp (by omega), eT.1]; exact hnt⟩, nI_clamp (by omega), cf_t hyes])

