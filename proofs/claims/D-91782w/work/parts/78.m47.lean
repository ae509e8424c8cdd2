set_option maxRecDepth 100000
theorem c_X21_holds_22 {G : Gv} {h : AH} {q : Nat} (hK : hp_K h q = (22, 0)) (s : Int32) : Ctr G 0 yX21_holds cX21_holds 2 (some .boolean) [.ref q, .int s] h 0 0 (Pu h (.int (b2i (hp_I h q 0 ≤ s ∧ s ≤ hp_I h q 1)))) := by
  refine ctr_of (own := RX21) (nm := "holds") (by decide) (Nat.le_of_ble_eq_true rfl) ?_
  refine v_iload_n dX21_holds_0 rfl rfl ?_
  refine v_aload_n dX21_holds_1 rfl rfl ?_
  refine v_getI fX21_15_X22 dX21_holds_2 hK ?_
  refine v_icmp_lt (tgt := 20) dX21_holds_5 (by decide) (fun b5 => ?_) (fun b5 => ?_)
  · skip
    refine v_iconst (v := 0) dX21_holds_20 (by decide) ?_
    exact v_reti dX21_holds_21 (by first | rfl | exact rt_z) (Pu_i (by (try simp only [Int32.not_lt] at *); first | exact (b2i_t (by grind)).symm | exact (b2i_f (by grind)).symm))
  · skip
    refine v_iload_n dX21_holds_8 rfl rfl ?_
    refine v_aload_n dX21_holds_9 rfl rfl ?_
    refine v_getI fX21_19_X22 dX21_holds_10 hK ?_
    refine v_icmp_gt (tgt := 20) dX21_holds_13 (by decide) (fun b13 => ?_) (fun b13 => ?_)
    · skip
      refine v_iconst (v := 0) dX21_holds_20 (by decide) ?_
      exact v_reti dX21_holds_21 (by first | rfl | exact rt_z) (Pu_i (by (try simp only [Int32.not_lt] at *); first | exact (b2i_t (by grind)).symm | exact (b2i_f (by grind)).symm))
    · skip
      refine v_iconst (v := 1) dX21_holds_16 (by decide) ?_
      refine v_goto (tgt := 21) dX21_holds_17 (by decide) ?_
      exact v_reti dX21_holds_21 (by first | rfl | exact rt_z) (Pu_i (by (try simp only [Int32.not_lt] at *); first | exact (b2i_t (by grind)).symm | exact (b2i_f (by grind)).symm))

theorem c_X21_holds_23 {G : Gv} {h : AH} {q : Nat} (hK : hp_K h q = (23, 0)) (s : Int32) : Ctr G 0 yX21_holds cX21_holds 2 (some .boolean) [.ref q, .int s] h 0 0 (Pu h (.int (b2i (hp_I h q 0 ≤ s ∧ s ≤ hp_I h q 1)))) := by
  refine ctr_of (own := RX21) (nm := "holds") (by decide) (Nat.le_of_ble_eq_true rfl) ?_
  refine v_iload_n dX21_holds_0 rfl rfl ?_
  refine v_aload_n dX21_holds_1 rfl rfl ?_
  refine v_getI fX21_15_X23 dX21_holds_2 hK ?_
  refine v_icmp_lt (tgt := 20) dX21_holds_5 (by decide) (fun b5 => ?_) (fun b5 => ?_)
  · skip
    refine v_iconst (v := 0) dX21_holds_20 (by decide) ?_
    exact v_reti dX21_holds_21 (by first | rfl | exact rt_z) (Pu_i (by (try simp only [Int32.not_lt] at *); first | exact (b2i_t (by grind)).symm | exact (b2i_f (by grind)).symm))
  · skip
    refine v_iload_n dX21_holds_8 rfl rfl ?_
    refine v_aload_n dX21_holds_9 rfl rfl ?_
    refine v_getI fX21_19_X23 dX21_holds_10 hK ?_
    refine v_icmp_gt (tgt := 20) dX21_holds_13 (by decide) (fun b13 => ?_) (fun b13 => ?_)
    · skip
      refine v_iconst (v := 0) dX21_holds_20 (by decide) ?_
      exact v_reti dX21_holds_21 (by first | rfl | exact rt_z) (Pu_i (by (try simp only [Int32.not_lt] at *); first | exact (b2i_t (by grind)).symm | exact (b2i_f (by grind)).symm))
    · skip
      refine v_iconst (v := 1) dX21_holds_16 (by decide) ?_
      refine v_goto (tgt := 21) dX21_holds_17 (by decide) ?_
      exact v_reti dX21_holds_21 (by first | rfl | exact rt_z) (Pu_i (by (try simp only [Int32.not_lt] at *); first | exact (b2i_t (by grind)).symm | exact (b2i_f (by grind)).symm))

theorem c_X21_holds_24 {G : Gv} {h : AH} {q : Nat} (hK : hp_K h q = (24, 0)) (s : Int32) : Ctr G 0 yX21_holds cX21_holds 2 (some .boolean) [.ref q, .int s] h 0 0 (Pu h (.int (b2i (hp_I h q 0 ≤ s ∧ s ≤ hp_I h q 1)))) := by
  refine ctr_of (own := RX21) (nm := "holds") (by decide) (Nat.le_of_ble_eq_true rfl) ?_
  refine v_iload_n dX21_holds_0 rfl rfl ?_
  refine v_aload_n dX21_holds_1 rfl rfl ?_
  refine v_getI fX21_15_X24 dX21_holds_2 hK ?_
  refine v_icmp_lt (tgt := 20) dX21_holds_5 (by decide) (fun b5 => ?_) (fun b5 => ?_)
  · skip
    refine v_iconst (v := 0) dX21_holds_20 (by decide) ?_
    exact v_reti dX21_holds_21 (by first | rfl | exact rt_z) (Pu_i (by (try simp only [Int32.not_lt] at *); first | exact (b2i_t (by grind)).symm | exact (b2i_f (by grind)).symm))
  · skip
    refine v_iload_n dX21_holds_8 rfl rfl ?_
    refine v_aload_n dX21_holds_9 rfl rfl ?_
    refine v_getI fX21_19_X24 dX21_holds_10 hK ?_
    refine v_icmp_gt (tgt := 20) dX21_holds_13 (by decide) (fun b13 => ?_) (fun b13 => ?_)
    · skip
      refine v_iconst (v := 0) dX21_holds_20 (by decide) ?_
      exact v_reti dX21_holds_21 (by first | rfl | exact rt_z) (Pu_i (by (try simp only [Int32.not_lt] at *); first | exact (b2i_t (by grind)).symm | exact (b2i_f (by grind)).symm))
    · skip
      refine v_iconst (v := 1) dX21_holds_16 (by decide) ?_
      refine v_goto (tgt := 21) dX21_holds_17 (by decide) ?_
      exact v_reti dX21_holds_21 (by first | rfl | exact rt_z) (Pu_i (by (try simp only [Int32.not_lt] at *); first | exact (b2i_t (by grind)).symm | exact (b2i_f (by grind)).symm))

theorem c_X22_ties {G : Gv} {h : AH} {q : Nat} (hK : hp_K h q = (22, 0)) (s : Int32) : Ctr G 0 yX22_ties cX22_ties 2 (some .boolean) [.ref q, .int s] h 0 0 (Pu h (.int (b2i (s = hp_I h q 4)))) := by
  refine ctr_of (own := RX22) (nm := "ties") (by decide) (Nat.le_of_ble_eq_true rfl) ?_
  refine v_iload_n dX22_ties_0 rfl rfl ?_
  refine v_aload_n dX22_ties_1 rfl rfl ?_
  refine v_getI fX22_13 dX22_ties_2 hK ?_
  refine v_icmp_ne (tgt := 12) dX22_ties_5 (by decide) (fun b5 => ?_) (fun b5 => ?_)
  · skip
    refine v_iconst (v := 0) dX22_ties_12 (by decide) ?_
    exact v_reti dX22_ties_13 (by first | rfl | exact rt_z) (Pu_i (by first | exact (b2i_t (by grind)).symm | exact (b2i_f (by grind)).symm))
  · skip
    refine v_iconst (v := 1) dX22_ties_8 (by decide) ?_
    refine v_goto (tgt := 13) dX22_ties_9 (by decide) ?_
    exact v_reti dX22_ties_13 (by first | rfl | exact rt_z) (Pu_i (by first | exact (b2i_t (by grind)).symm | exact (b2i_f (by grind)).symm))

theorem c_X21_ties {G : Gv} {h : AH} {q : Nat} (s : Int32) : Ctr G 0 yX21_ties cX21_ties 2 (some .boolean) [.ref q, .int s] h 0 0 (Pu h (.int 0)) := by
  refine ctr_of (own := RX21) (nm := "ties") (by decide) (Nat.le_of_ble_eq_true rfl) ?_
  refine v_iconst (v := 0) dX21_ties_0 (by decide) ?_
  exact v_reti dX21_ties_1 rfl (Pu_i rfl)

theorem c_X23_lights {G : Gv} {h : AH} {q : Nat} (hK : hp_K h q = (23, 0)) : Ctr G 0 yX23_lights cX23_lights 1 (some .int) [.ref q] h 0 0 (Pu h (.int (hp_I h q 4))) := by
  refine ctr_of (own := RX23) (nm := "lights") (by decide) (Nat.le_of_ble_eq_true rfl) ?_
  refine v_aload_n dX23_lights_0 rfl rfl ?_
  refine v_getI fX23_13 dX23_lights_1 hK ?_
  exact v_reti dX23_lights_4 rfl (Pu_i rfl)

theorem c_X21_lights {G : Gv} {h : AH} {q : Nat} : Ctr G 0 yX21_lights cX21_lights 1 (some .int) [.ref q] h 0 0 (Pu h (.int 0)) := by
  refine ctr_of (own := RX21) (nm := "lights") (by decide) (Nat.le_of_ble_eq_true rfl) ?_
  refine v_iconst (v := 0) dX21_lights_0 (by decide) ?_
  exact v_reti dX21_lights_1 rfl (Pu_i rfl)

theorem c_X24_watched {G : Gv} {h : AH} {q : Nat} (hK : hp_K h q = (24, 0)) (s : Int32) : Ctr G 0 yX24_watched cX24_watched 2 (some .int) [.ref q, .int s] h 0 0 (Pu h (.int (if s = hp_I h q 4 then hp_I h q 5 else -1))) := by
  refine ctr_of (own := RX24) (nm := "watched") (by decide) (Nat.le_of_ble_eq_true rfl) ?_
  refine v_iload_n dX24_watched_0 rfl rfl ?_
  refine v_aload_n dX24_watched_1 rfl rfl ?_
  refine v_getI fX24_15 dX24_watched_2 hK ?_
  refine v_icmp_ne (tgt := 15) dX24_watched_5 (by decide) (fun b5 => ?_) (fun b5 => ?_)
  · skip
    refine v_iconst (v := (-1)) dX24_watched_15 (by decide) ?_
    first | exact v_reti dX24_watched_16 rfl (Pu_i (if_pos b5).symm) | exact v_reti dX24_watched_16 rfl (Pu_i (if_neg b5).symm) | exact v_reti dX24_watched_16 rfl (Pu_i (by split <;> first | rfl | contradiction))
  · skip
    refine v_aload_n dX24_watched_8 rfl rfl ?_
    refine v_getI fX24_19 dX24_watched_9 hK ?_
    refine v_goto (tgt := 16) dX24_watched_12 (by decide) ?_
    first | exact v_reti dX24_watched_16 rfl (Pu_i (if_pos b5).symm) | exact v_reti dX24_watched_16 rfl (Pu_i (if_neg b5).symm) | exact v_reti dX24_watched_16 rfl (Pu_i (by split <;> first | rfl | contradiction))

theorem c_X21_watched {G : Gv} {h : AH} {q : Nat} (s : Int32) : Ctr G 0 yX21_watched cX21_watched 2 (some .int) [.ref q, .int s] h 0 0 (Pu h (.int (-1))) := by
  refine ctr_of (own := RX21) (nm := "watched") (by decide) (Nat.le_of_ble_eq_true rfl) ?_
  refine v_iconst (v := (-1)) dX21_watched_0 (by decide) ?_
  exact v_reti dX21_watched_1 rfl (Pu_i rfl)

theorem dlX21_holds : dl_ yX21_holds "RapTable$Control" := ⟨q642, ⟨by decide, by decide⟩, .inr ⟨q641, _, _, _, q646⟩⟩
theorem dlX21_ties : dl_ yX21_ties "RapTable$Control" := ⟨q649, ⟨by decide, by decide⟩, .inr ⟨q648, _, _, _, q655⟩⟩
theorem dlX21_lights : dl_ yX21_lights "RapTable$Control" := ⟨q720, ⟨by decide, by decide⟩, .inr ⟨q719, _, _, _, q726⟩⟩
theorem dlX21_watched : dl_ yX21_watched "RapTable$Control" := ⟨q738, ⟨by decide, by decide⟩, .inr ⟨q737, _, _, _, q744⟩⟩
theorem cl_KO {h : AH} {q : Nat} {C : Nat → Nat → Int32} {k : Nat} (hq : CL_ h q C k) : KO_ h q "RapTable$Control" := by
  rcases hq.2 with ⟨hK, -⟩ | ⟨hK, -⟩ | ⟨hK, -⟩
  · exact ⟨22, _, _, _, hK, by decide, rfl, nw_m q2229 rfl⟩
  · exact ⟨23, _, _, _, hK, by decide, rfl, nw_m q2228 rfl⟩
  · exact ⟨24, _, _, _, hK, by decide, rfl, nw_m q2230 rfl⟩
theorem dp_holds {G : Gv} {h : AH} {q : Nat} {C : Nat → Nat → Int32} {k : Nat} (hq : CL_ h q C k) (s : Int32) : DP_ G 0 h q yX21_holds (some .boolean) [.int s] 1 0 0 (Pu h (.int (b2i (C 3 k ≤ s ∧ s ≤ C 4 k)))) := by
  obtain ⟨⟨e1, e2, e3⟩, hK⟩ := hq
  rw [← e1, ← e2]
  rcases hK with ⟨hK, -⟩ | ⟨hK, -⟩ | ⟨hK, -⟩
  · exact ⟨22, "RapTable$Tie", _, _, yX21_holds, cX21_holds, 2, hK, by decide, rfl, mtX21_holds, rfl, q644, q641, c_X21_holds_22 hK s⟩
  · exact ⟨23, "RapTable$Lamp", _, _, yX21_holds, cX21_holds, 2, hK, by decide, rfl, mtX21_holds, rfl, q643, q641, c_X21_holds_23 hK s⟩
  · exact ⟨24, "RapTable$Watch", _, _, yX21_holds, cX21_holds, 2, hK, by decide, rfl, mtX21_holds, rfl, q645, q641, c_X21_holds_24 hK s⟩
theorem dp_ties {G : Gv} {h : AH} {q : Nat} {C : Nat → Nat → Int32} {k : Nat} (hq : CL_ h q C k) (a : Int32) : DP_ G 0 h q yX21_ties (some .boolean) [.int a] 1 0 0 (Pu h (.int (b2i (C 0 k = 0 ∧ a = C 1 k)))) := by
  obtain ⟨-, hK⟩ := hq
  rcases hK with ⟨hK, e1, e2⟩ | ⟨hK, e1, -⟩ | ⟨hK, e1, -⟩
  · rw [show b2i (C 0 k = 0 ∧ a = C 1 k) = b2i (a = hp_I h q 4) from b2i_c (by rw [e2]; exact ⟨fun z => z.2, fun z => ⟨e1, z⟩⟩)]
    exact ⟨22, "RapTable$Tie", _, _, yX22_ties, cX22_ties, 2, hK, by decide, rfl, mtX22_ties, rfl, q651, q652, c_X22_ties hK a⟩
  · rw [b2i_f (fun z => absurd (e1.symm.trans z.1) (by decide))]
    exact ⟨23, "RapTable$Lamp", _, _, yX21_ties, cX21_ties, 2, hK, by decide, rfl, mtX21_ties, rfl, q650, q648, c_X21_ties a⟩
  · rw [b2i_f (fun z => absurd (e1.symm.trans z.1) (by decide))]
    exact ⟨24, "RapTable$Watch", _, _, yX21_ties, cX21_ties, 2, hK, by decide, rfl, mtX21_ties, rfl, q654, q648, c_X21_ties a⟩
theorem dp_lights {G : Gv} {h : AH} {q : Nat} {C : Nat → Nat → Int32} {k : Nat} (hq : CL_ h q C k) : DP_ G 0 h q yX21_lights (some .int) [] 0 0 0 (Pu h (.int (if C 0 k = 1 then C 2 k else 0))) := by
  obtain ⟨-, hK⟩ := hq
  rcases hK with ⟨hK, e1, -⟩ | ⟨hK, e1, e2⟩ | ⟨hK, e1, -⟩
  · rw [if_neg (fun z => absurd (e1.symm.trans z) (by decide))]
    exact ⟨22, "RapTable$Tie", _, _, yX21_lights, cX21_lights, 1, hK, by decide, rfl, mtX21_lights, rfl, q724, q719, c_X21_lights⟩
  · rw [if_pos e1, ← e2]
    exact ⟨23, "RapTable$Lamp", _, _, yX23_lights, cX23_lights, 1, hK, by decide, rfl, mtX23_lights, rfl, q721, q722, c_X23_lights hK⟩
  · rw [if_neg (fun z => absurd (e1.symm.trans z) (by decide))]
    exact ⟨24, "RapTable$Watch", _, _, yX21_lights, cX21_lights, 1, hK, by decide, rfl, mtX21_lights, rfl, q725, q719, c_X21_lights⟩
theorem dp_watched {G : Gv} {h : AH} {q : Nat} {C : Nat → Nat → Int32} {k : Nat} (hq : CL_ h q C k) (p : Int32) : DP_ G 0 h q yX21_watched (some .int) [.int p] 1 0 0 (Pu h (.int (if C 0 k = 2 ∧ p = C 1 k then C 2 k else -1))) := by
  obtain ⟨-, hK⟩ := hq
  rcases hK with ⟨hK, e1, -⟩ | ⟨hK, e1, -⟩ | ⟨hK, e1, e2, e3⟩
  · rw [if_neg (fun z => absurd (e1.symm.trans z.1) (by decide))]
    exact ⟨22, "RapTable$Tie", _, _, yX21_watched, cX21_watched, 2, hK, by decide, rfl, mtX21_watched, rfl, q740, q737, c_X21_watched p⟩
  · rw [if_neg (fun z => absurd (e1.symm.trans z.1) (by decide))]
    exact ⟨23, "RapTable$Lamp", _, _, yX21_watched, cX21_watched, 2, hK, by decide, rfl, mtX21_watched, rfl, q739, q737, c_X21_watched p⟩
  · have e9 : (if C 0 k = 2 ∧ p = C 1 k then C 2 k else -1) = (if p = hp_I h q 4 then hp_I h q 5 else -1) := by
      rw [e2, e3]
      by_cases z : p = C 1 k
      · rw [if_pos ⟨e1, z⟩, if_pos z]
      · rw [if_neg (fun y => z y.2), if_neg z]
    rw [e9]
    exact ⟨24, "RapTable$Watch", _, _, yX24_watched, cX24_watched, 2, hK, by decide, rfl, mtX24_watched, rfl, q741, q742, c_X24_watched hK p⟩
theorem c_X0_isInForce {G : Gv} {h : AH} {b nC sN : Nat} {A : Nat → Int32} {C : Nat → Nat → Int32} {S : Int32} (hq : XQ_ h b A C nC sN S) {k : Nat} (hk : k < nC) (s : Int32) : Ctr G 4 yX0_isInForce cX0_isInForce 3 (some .boolean) [.ref 30, .int (nI k), .int s] h 0 0 (Pu h (.int (b2i ((S >>> (nI k &&& 31)) &&& 1 = 1 ∧ C 3 k ≤ s ∧ s ≤ C 4 k)))) := by
  refine ctr_of (own := RX0) (nm := "isInForce") (by decide) (Nat.le_of_ble_eq_true rfl) ?_
  have hq9 := hq
  obtain ⟨hX, hS, ⟨DC, cC, fC, hCA, hCE⟩, hv, hc⟩ := hq9
  have h39 := sv_s hv
  have h8 := hc.1
  refine v_aload_n dX0_isInForce_0 rfl rfl ?_
  refine v_getI fX0_196 dX0_isInForce_1 hX.1 ?_
  rw [hX.2.2.2.1]
  refine v_iload_n dX0_isInForce_4 rfl rfl ?_
  refine v_ishr dX0_isInForce_5 ?_
  refine v_iconst (v := 1) dX0_isInForce_6 (by decide) ?_
  refine v_iand dX0_isInForce_7 ?_
  refine v_iconst (v := 1) dX0_isInForce_8 (by decide) ?_
  refine v_icmp_ne (tgt := 34) dX0_isInForce_9 (by decide) (fun b9 => ?_) (fun b9 => ?_)
  · skip
    refine v_iconst (v := 0) dX0_isInForce_34 (by decide) ?_
    exact v_reti dX0_isInForce_35 (by first | rfl | exact rt_z) (Pu_i (by (try simp only [b2i_0, b2i_n0] at *); first | exact (b2i_t (by grind)).symm | exact (b2i_f (by grind)).symm))
  · skip
    refine v_aload_n dX0_isInForce_12 rfl rfl ?_
    refine v_getR fX0_45 dX0_isInForce_13 hX.1 (xc_Rcontrols hX.2.2.2.2) ?_
    refine v_iload_n dX0_isInForce_16 rfl rfl ?_
    refine v_pV mtJ2_get q621 q607 q608 rfl (by decide) dX0_isInForce_17 (c_J2_get hCA rfl (by first | assumption | omega)) (hCA).1 (by first | decide | omega) ?_
    refine v_castU (cl_KO (hCE _ (by first | assumption | omega))) q639 dX0_isInForce_20 ?_
    refine v_iload_n dX0_isInForce_23 rfl rfl ?_
    refine v_pU dlX21_holds q640 dX0_isInForce_24 (dp_holds (hCE _ (by first | assumption | omega)) _ ) (by first | decide | omega) ?_
    refine v_if_eq (tgt := 34) dX0_isInForce_27 (by decide) (fun b27 => ?_) (fun b27 => ?_)
    · skip
      refine v_iconst (v := 0) dX0_isInForce_34 (by decide) ?_
      exact v_reti dX0_isInForce_35 (by first | rfl | exact rt_z) (Pu_i (by (try simp only [b2i_0, b2i_n0] at *); first | exact (b2i_t (by grind)).symm | exact (b2i_f (by grind)).symm))
    · skip
      refine v_iconst (v := 1) dX0_isInForce_30 (by decide) ?_
      refine v_goto (tgt := 35) dX0_isInForce_31 (by decide) ?_
      exact v_reti dX0_isInForce_35 (by first | rfl | exact rt_z) (Pu_i (by (try simp only [b2i_0, b2i_n0] at *); first | exact (b2i_t (by grind)).symm | exact (b2i_f (by grind)).symm))

theorem li_in {A : Nat → Int32} {C : Nat → Nat → Int32} {nC sN t : Nat} {S : Int32} (hv : sv_ok A sN) (hc : cl_ok C nC sN) (ht : t < 100) : ∀ n, n ≤ nC → in_ (li_ A C S t n) 10
  | 0, _ => sv_light hv ht
  | n + 1, hn => by
    rw [li_s]
    split
    · next z =>
      rcases (hc.2 n (by omega)).1 with ⟨e, -⟩ | ⟨-, e⟩ | ⟨e, -⟩
      · exact absurd (z.1.2.1.symm.trans e) (by decide)
      · exact e
      · exact absurd (z.1.2.1.symm.trans e) (by decide)
    · exact li_in hv hc ht n (by omega)
theorem hs_0 (k : Nat) : ¬ ((0 : Int32) >>> (nI k &&& 31)) &&& 1 = 1 := by
  have : (0 : Int32) >>> (nI k &&& 31) = 0 := by
    apply Int32.toBitVec_inj.mp
    rw [Int32.toBitVec_shiftRight]
    simp
  rw [this]; decide
theorem li_0 (A : Nat → Int32) (C : Nat → Nat → Int32) (t : Nat) : ∀ n, li_ A C 0 t n = A t
  | 0 => rfl
  | n + 1 => by rw [li_s, if_neg (fun z => hs_0 n z.1.1), li_0 A C t n]
theorem rul_0 (C : Nat → Nat → Int32) (p t : Nat) : ∀ n, rul_ C 0 p t n = -1
  | 0 => rfl
  | n + 1 => by rw [rul_s, if_neg (fun z => hs_0 n z.1), rul_0 C p t n]
theorem li_ne {A : Nat → Int32} {C : Nat → Nat → Int32} {S : Int32} {t n : Nat} (h : ¬ ((S >>> (nI n &&& 31)) &&& 1 = 1 ∧ C 3 n ≤ nI t ∧ nI t ≤ C 4 n)) : li_ A C S t (n + 1) = li_ A C S t n := by
  rw [li_s, if_neg (fun z => h ⟨z.1.1, z.1.2.2⟩)]
theorem li_mx {A : Nat → Int32} {C : Nat → Nat → Int32} {S : Int32} {t n : Nat} (h : (S >>> (nI n &&& 31)) &&& 1 = 1 ∧ C 3 n ≤ nI t ∧ nI t ≤ C 4 n) (h0 : in_ (li_ A C S t n) 10) : (if li_ A C S t n < (if C 0 n = 1 then C 2 n else 0) then (if C 0 n = 1 then C 2 n else 0) else li_ A C S t n) = li_ A C S t (n + 1) := by
  rw [li_s]
  by_cases z : C 0 n = 1
  · rw [if_pos z]
    by_cases y : li_ A C S t n < C 2 n
    · rw [if_pos y, if_pos ⟨⟨h.1, z, h.2⟩, y⟩]
    · rw [if_neg y, if_neg (fun x => y x.2)]
  · obtain ⟨k, hk, e⟩ := h0
    rw [if_neg z, if_neg (c := _ ∧ _) (fun x => z x.1.2.1), if_neg (by rw [e]; exact nI_pos (by omega))]
/-- where a control orders a person to look -/
def ord_ (C : Nat → Nat → Int32) (nC : Nat) (S : Int32) (p t : Nat) : Int32 := if rul_ C S p t nC = -1 then -1 else C 2 (rul_ C S p t nC).toNatClampNeg
theorem c_X0_lightAt {G : Gv} {h : AH} {b nC sN : Nat} {A : Nat → Int32} {C : Nat → Nat → Int32} {S : Int32} (hq : XQ_ h b A C nC sN S) {t : Nat} (ht : t < 100) : Ctr G 5 yX0_lightAt cX0_lightAt 4 (some .int) [.ref 30, .int (nI t)] h 0 0 (Pu h (.int (li_ A C S t nC))) := by
  refine ctr_of (own := RX0) (nm := "lightAt") (by decide) (Nat.le_of_ble_eq_true rfl) ?_
  have hq9 := hq
  obtain ⟨hX, hS, ⟨DC, cC, fC, hCA, hCE⟩, hv, hc⟩ := hq9
  have h39 := sv_s hv
  have h8 := hc.1
  refine v_aload_n dX0_lightAt_0 rfl rfl ?_
  refine v_getR fX0_32 dX0_lightAt_1 hX.1 hX.2.2.1 ?_
  refine v_getR fX0_120 dX0_lightAt_4 (si_K hS) (si_Rlight hS) ?_
  refine v_iload_n dX0_lightAt_7 rfl rfl ?_
  refine v_iald dX0_lightAt_8 (si_light hS) rfl (by first | assumption | omega) ?_
  rw [si_Dlight hS _ ht]
  refine v_istore_n dX0_lightAt_9 rfl (by decide) ?_
  refine v_iconst (v := 0) dX0_lightAt_10 (by decide) ?_
  refine v_istore_n dX0_lightAt_11 rfl (by decide) ?_
  refine v_loc2 (by repeat' (first | exact trivial | refine And.intro ?_ ?_ | exact rfl)) (v_lp1 (fun (k : Nat) => nC - k) (fun (k : Nat) => k ≤ nC) (fun (k : Nat) => [(0, .ref 30), (1, .int (nI t)), (2, .int (li_ A C S t k)), (3, .int (nI k))]) (fun _ => []) (fun (k : Nat) => h) ?_ 0 (Nat.zero_le _))
  intro k hk IH
  refine v_aload_n dX0_lightAt_12 rfl rfl ?_
  refine v_getI fX0_196 dX0_lightAt_13 hX.1 ?_
  rw [hX.2.2.2.1]
  refine v_if_eq (tgt := 64) dX0_lightAt_16 (by decide) (fun b16 => ?_) (fun b16 => ?_)
  · skip
    have hli : li_ A C S t k = li_ A C S t nC := by rw [b16, li_0, li_0]
    refine v_iload_n dX0_lightAt_64 rfl rfl ?_
    first | exact v_reti dX0_lightAt_65 rfl (Pu_i rfl) | exact v_reti dX0_lightAt_65 rfl (Pu_i hli)
  · skip
    refine v_iload_n dX0_lightAt_19 rfl rfl ?_
    refine v_aload_n dX0_lightAt_20 rfl rfl ?_
    refine v_getR fX0_45 dX0_lightAt_21 hX.1 (xc_Rcontrols hX.2.2.2.2) ?_
    refine v_pV mtJ2_size q481 q482 q483 rfl (by decide) dX0_lightAt_24 (c_J2_size hCA) (hCA).1 (by first | decide | omega) ?_
    refine v_icmp_ge (tgt := 64) dX0_lightAt_27 (by decide) (fun b27 => ?_) (fun b27 => ?_)
    · skip
      have hkn : nC ≤ k := (nI_leI (by omega) (by omega)).mp b27
      obtain rfl : k = nC := by omega
      refine v_iload_n dX0_lightAt_64 rfl rfl ?_
      first | exact v_reti dX0_lightAt_65 rfl (Pu_i rfl) | exact v_reti dX0_lightAt_65 rfl (Pu_i hli)
    · skip
      have hkn : k < nC := Nat.lt_of_not_le (fun z => b27 ((nI_leI (by omega) (by omega)).mpr z))
      refine v_aload_n dX0_lightAt_30 rfl rfl ?_
      refine v_iload_n dX0_lightAt_31 rfl rfl ?_
      refine v_iload_n dX0_lightAt_32 rfl rfl ?_
      refine v_pV mtX0_isInForce q635 q637 qs13 rfl (by decide) dX0_lightAt_33 (c_X0_isInForce hq ?_ _) hX.1 (by first | decide | omega) ?_
      · first | assumption | omega
      refine v_if_eq (tgt := 58) dX0_lightAt_36 (by decide) (fun b36 => ?_) (fun b36 => ?_)
      · skip
        rw [b2i_0] at b36
        refine v_iinc dX0_lightAt_58 rfl (by first | with_reducible exact nI_inc _ | exact rfl) (by decide) ?_
        refine v_goto (tgt := 12) dX0_lightAt_61 (by decide) ?_
        first | exact v_loc2 (l' := [(0, .ref 30), (1, .int (nI t)), (2, .int (li_ A C S t (k + 1))), (3, .int (nI (k + 1)))]) (And.intro rfl (And.intro rfl (And.intro (congrArg (fun z => some (Value.int z)) (li_ne (A := A) b36).symm) (And.intro rfl trivial)))) (IH (k + 1) hkn (by omega)) | exact v_loc2 (by repeat' (first | exact trivial | refine And.intro ?_ ?_ | exact rfl)) (IH (k + 1) hkn (by omega))
      · skip
        rw [b2i_n0] at b36
        refine v_iload_n dX0_lightAt_39 rfl rfl ?_
        refine v_aload_n dX0_lightAt_40 rfl rfl ?_
        refine v_getR fX0_45 dX0_lightAt_41 hX.1 (xc_Rcontrols hX.2.2.2.2) ?_
        refine v_iload_n dX0_lightAt_44 rfl rfl ?_
        refine v_pV mtJ2_get q621 q607 q608 rfl (by decide) dX0_lightAt_45 (c_J2_get hCA rfl (by first | assumption | omega)) (hCA).1 (by first | decide | omega) ?_
        refine v_castU (cl_KO (hCE _ (by first | assumption | omega))) q639 dX0_lightAt_48 ?_
        refine v_pU dlX21_lights q718 dX0_lightAt_51 (dp_lights (hCE _ (by first | assumption | omega)) ) (by first | decide | omega) ?_
        refine v_mmax q727 (by first | decide | omega) dX0_lightAt_54 ?_
        rw [li_mx b36 (li_in hv hc ht k hk)]
        refine v_istore_n dX0_lightAt_57 rfl (by decide) ?_
        refine v_iinc dX0_lightAt_58 rfl (by first | with_reducible exact nI_inc _ | exact rfl) (by decide) ?_
        refine v_goto (tgt := 12) dX0_lightAt_61 (by decide) ?_
        first | exact v_loc2 (l' := [(0, .ref 30), (1, .int (nI t)), (2, .int (li_ A C S t (k + 1))), (3, .int (nI (k + 1)))]) (And.intro rfl (And.intro rfl (And.intro (congrArg (fun z => some (Value.int z)) (li_ne (A := A) b36).symm) (And.intro rfl trivial)))) (IH (k + 1) hkn (by omega)) | exact v_loc2 (by repeat' (first | exact trivial | refine And.intro ?_ ?_ | exact rfl)) (IH (k + 1) hkn (by omega))

theorem rul_ne {C : Nat → Nat → Int32} {S : Int32} {p t n : Nat} (h : ¬ ((S >>> (nI n &&& 31)) &&& 1 = 1 ∧ C 3 n ≤ nI t ∧ nI t ≤ C 4 n)) : rul_ C S p t (n + 1) = rul_ C S p t n := by
  rw [rul_s, if_neg (fun z => h ⟨z.1, z.2.2.2⟩)]
theorem rul_nw {C : Nat → Nat → Int32} {S : Int32} {p t n : Nat} (h : ¬ (C 0 n = 2 ∧ nI p = C 1 n)) : rul_ C S p t (n + 1) = rul_ C S p t n := by
  rw [rul_s, if_neg (fun z => h ⟨z.2.1, z.2.2.1.symm⟩)]
theorem rul_ye {C : Nat → Nat → Int32} {S : Int32} {p t n : Nat} (h : (S >>> (nI n &&& 31)) &&& 1 = 1 ∧ C 3 n ≤ nI t ∧ nI t ≤ C 4 n) (h2 : C 0 n = 2 ∧ nI p = C 1 n) : rul_ C S p t (n + 1) = nI n := by
  rw [rul_s, if_pos ⟨h.1, h2.1, h2.2.symm, h.2⟩]
theorem wt_m1 {C : Nat → Nat → Int32} {nC sN n p : Nat} (hc : cl_ok C nC sN) (h9 : sN ≤ 9) (hn : n < nC) (h : (if C 0 n = 2 ∧ nI p = C 1 n then C 2 n else -1) = -1) : ¬ (C 0 n = 2 ∧ nI p = C 1 n) := fun z => by
  rw [if_pos z] at h
  rcases (hc.2 n hn).1 with ⟨e, -⟩ | ⟨e, -⟩ | ⟨-, -, ⟨k, hk, e⟩⟩
  · exact absurd (z.1.symm.trans e) (by decide)
  · exact absurd (z.1.symm.trans e) (by decide)
  · rw [e] at h; exact nI_ne1 (by omega) h
theorem wt_n1 {C : Nat → Nat → Int32} {n p : Nat} (h : ¬ (if C 0 n = 2 ∧ nI p = C 1 n then C 2 n else -1) = -1) : C 0 n = 2 ∧ nI p = C 1 n := by
  by_cases z : C 0 n = 2 ∧ nI p = C 1 n
  · exact z
  · rw [if_neg z] at h; exact absurd rfl h
theorem c_X0_ordered {G : Gv} {h : AH} {b nC sN : Nat} {A : Nat → Int32} {C : Nat → Nat → Int32} {S : Int32} (hq : XQ_ h b A C nC sN S) {p t : Nat} : Ctr G 5 yX0_ordered cX0_ordered 4 (some .int) [.ref 30, .int (nI p), .int (nI t)] h 0 0 (Pu h (.int (ord_ C nC S p t))) := by
  refine ctr_of (own := RX0) (nm := "ordered") (by decide) (Nat.le_of_ble_eq_true rfl) ?_
  have hq9 := hq
  obtain ⟨hX, hS, ⟨DC, cC, fC, hCA, hCE⟩, hv, hc⟩ := hq9
  have h39 := sv_s hv
  have h8 := hc.1
  refine v_aload_n dX0_ordered_0 rfl rfl ?_
  refine v_getR fX0_45 dX0_ordered_1 hX.1 (xc_Rcontrols hX.2.2.2.2) ?_
  refine v_pV mtJ2_size q481 q482 q483 rfl (by decide) dX0_ordered_4 (c_J2_size hCA) (hCA).1 (by first | decide | omega) ?_
  refine v_iconst (v := 1) dX0_ordered_7 (by decide) ?_
  refine v_isub dX0_ordered_8 ?_
  refine v_istore_n dX0_ordered_9 rfl (by decide) ?_
  refine v_loc2 (by repeat' (first | exact trivial | refine And.intro ?_ ?_ | exact rfl)) (v_lp1 (fun (n : Nat) => n) (fun (n : Nat) => n ≤ nC ∧ rul_ C S p t nC = rul_ C S p t n) (fun (n : Nat) => [(0, .ref 30), (1, .int (nI p)), (2, .int (nI t)), (3, .int (nI n - 1))]) (fun _ => []) (fun (n : Nat) => h) ?_ nC ⟨Nat.le_refl _, rfl⟩)
  intro n ⟨hn, hrn⟩ IH
  refine v_aload_n dX0_ordered_10 rfl rfl ?_
  refine v_getI fX0_196 dX0_ordered_11 hX.1 ?_
  rw [hX.2.2.2.1]
  refine v_if_eq (tgt := 71) dX0_ordered_14 (by decide) (fun b14 => ?_) (fun b14 => ?_)
  · skip
    have hrl : rul_ C S p t nC = -1 := by rw [b14, rul_0]
    refine v_iconst (v := (-1)) dX0_ordered_71 (by decide) ?_
    refine v_reti dX0_ordered_72 rfl (Pu_i ?_)
    unfold ord_
    first | rw [hrl, if_pos rfl] | (rw [hrn]; rfl)
  · skip
    refine v_iload_n dX0_ordered_17 rfl rfl ?_
    refine v_if_lt (tgt := 71) dX0_ordered_18 (by decide) (fun b18 => ?_) (fun b18 => ?_)
    · skip
      have hn0 := dl_t b18 (by omega)
      subst hn0
      refine v_iconst (v := (-1)) dX0_ordered_71 (by decide) ?_
      refine v_reti dX0_ordered_72 rfl (Pu_i ?_)
      unfold ord_
      first | rw [hrl, if_pos rfl] | (rw [hrn]; rfl)
    · skip
      obtain ⟨m, rfl⟩ := dl_f b18
      rw [nI_pred]
      refine v_aload_n dX0_ordered_21 rfl rfl ?_
      refine v_iload_n dX0_ordered_22 rfl rfl ?_
      refine v_iload_n dX0_ordered_23 rfl rfl ?_
      refine v_pV mtX0_isInForce q635 q637 qs13 rfl (by decide) dX0_ordered_24 (c_X0_isInForce hq ?_ _) hX.1 (by first | decide | omega) ?_
      · first | assumption | omega
      refine v_if_eq (tgt := 65) dX0_ordered_27 (by decide) (fun b27 => ?_) (fun b27 => ?_)
      · skip
        rw [b2i_0] at b27
        refine v_iinc dX0_ordered_65 rfl (nI_dec1 m) (by decide) ?_
        refine v_goto (tgt := 10) dX0_ordered_68 (by decide) ?_
        first | exact v_loc2 (by repeat' (first | exact trivial | refine And.intro ?_ ?_ | exact rfl)) (IH m ⟨by omega, hrn.trans (rul_ne b27)⟩ (by omega)) | exact v_loc2 (by repeat' (first | exact trivial | refine And.intro ?_ ?_ | exact rfl)) (IH m ⟨by omega, hrn.trans (rul_nw hw)⟩ (by omega))
      · skip
        rw [b2i_n0] at b27
        refine v_aload_n dX0_ordered_30 rfl rfl ?_
        refine v_getR fX0_45 dX0_ordered_31 hX.1 (xc_Rcontrols hX.2.2.2.2) ?_
        refine v_iload_n dX0_ordered_34 rfl rfl ?_
        refine v_pV mtJ2_get q621 q607 q608 rfl (by decide) dX0_ordered_35 (c_J2_get hCA rfl (by first | assumption | omega)) (hCA).1 (by first | decide | omega) ?_
        refine v_castU (cl_KO (hCE _ (by first | assumption | omega))) q639 dX0_ordered_38 ?_
        refine v_iload_n dX0_ordered_41 rfl rfl ?_
        refine v_pU dlX21_watched q736 dX0_ordered_42 (dp_watched (hCE _ (by first | assumption | omega)) _ ) (by first | decide | omega) ?_
        refine v_iconst (v := (-1)) dX0_ordered_45 (by decide) ?_
        refine v_icmp_eq (tgt := 65) dX0_ordered_46 (by decide) (fun b46 => ?_) (fun b46 => ?_)
        · skip
          have hw := wt_m1 hc h39.2 (by omega) b46
          refine v_iinc dX0_ordered_65 rfl (nI_dec1 m) (by decide) ?_
          refine v_goto (tgt := 10) dX0_ordered_68 (by decide) ?_
          first | exact v_loc2 (by repeat' (first | exact trivial | refine And.intro ?_ ?_ | exact rfl)) (IH m ⟨by omega, hrn.trans (rul_ne b27)⟩ (by omega)) | exact v_loc2 (by repeat' (first | exact trivial | refine And.intro ?_ ?_ | exact rfl)) (IH m ⟨by omega, hrn.trans (rul_nw hw)⟩ (by omega))
        · skip
          have hw := wt_n1 b46
          refine v_aload_n dX0_ordered_49 rfl rfl ?_
          refine v_getR fX0_45 dX0_ordered_50 hX.1 (xc_Rcontrols hX.2.2.2.2) ?_
          refine v_iload_n dX0_ordered_53 rfl rfl ?_
          refine v_pV mtJ2_get q621 q607 q608 rfl (by decide) dX0_ordered_54 (c_J2_get hCA rfl (by first | assumption | omega)) (hCA).1 (by first | decide | omega) ?_
          refine v_castU (cl_KO (hCE _ (by first | assumption | omega))) q639 dX0_ordered_57 ?_
          refine v_iload_n dX0_ordered_60 rfl rfl ?_
          refine v_pU dlX21_watched q736 dX0_ordered_61 (dp_watched (hCE _ (by first | assumption | omega)) _ ) (by first | decide | omega) ?_
          refine v_reti dX0_ordered_64 rfl (Pu_i ?_)
          unfold ord_
          rw [hrn, rul_ye b27 hw, if_pos hw, if_neg (nI_ne1 (by omega)), nI_clamp (by omega)]

theorem c_X0_isTied {G : Gv} {h : AH} {b nC sN : Nat} {A : Nat → Int32} {C : Nat → Nat → Int32} {S : Int32} (hq : XQ_ h b A C nC sN S) {a t : Nat} : Ctr G 5 yX0_isTied cX0_isTied 4 (some .boolean) [.ref 30, .int (nI a), .int (nI t)] h 0 0 (Pu h (.int (b2c (tied_ C nC S a t)))) := by
  refine ctr_of (own := RX0) (nm := "isTied") (by decide) (Nat.le_of_ble_eq_true rfl) ?_
  have hq9 := hq
  obtain ⟨hX, hS, ⟨DC, cC, fC, hCA, hCE⟩, hv, hc⟩ := hq9
  have h39 := sv_s hv
  have h8 := hc.1
  refine v_iconst (v := 0) dX0_isTied_0 (by decide) ?_
  refine v_istore_n dX0_isTied_1 rfl (by decide) ?_
  refine v_loc2 (by repeat' (first | exact trivial | refine And.intro ?_ ?_ | exact rfl)) (v_lp1 (fun (k : Nat) => nC - k) (fun (k : Nat) => k ≤ nC ∧ ∀ c, c < k → ¬ tie_ C S a t c) (fun (k : Nat) => [(0, .ref 30), (1, .int (nI a)), (2, .int (nI t)), (3, .int (nI k))]) (fun _ => []) (fun (k : Nat) => h) ?_ 0 ⟨Nat.zero_le _, fun c hc => absurd hc (Nat.not_lt_zero _)⟩)
  intro k ⟨hk, hI⟩ IH
  refine v_aload_n dX0_isTied_2 rfl rfl ?_
  refine v_getI fX0_196 dX0_isTied_3 hX.1 ?_
  rw [hX.2.2.2.1]
  refine v_if_eq (tgt := 55) dX0_isTied_6 (by decide) (fun b6 => ?_) (fun b6 => ?_)
  · skip
    have hno : ¬ tied_ C nC S a t := fun ⟨c, h1, h2⟩ => hs_0 c (by rw [b6] at h2; exact h2.1)
    refine v_iconst (v := 0) dX0_isTied_55 (by decide) ?_
    exact v_reti dX0_isTied_56 rfl (Pu_i (b2c_f hno).symm)
  · skip
    refine v_iload_n dX0_isTied_9 rfl rfl ?_
    refine v_aload_n dX0_isTied_10 rfl rfl ?_
    refine v_getR fX0_45 dX0_isTied_11 hX.1 (xc_Rcontrols hX.2.2.2.2) ?_
    refine v_pV mtJ2_size q481 q482 q483 rfl (by decide) dX0_isTied_14 (c_J2_size hCA) (hCA).1 (by first | decide | omega) ?_
    refine v_icmp_ge (tgt := 55) dX0_isTied_17 (by decide) (fun b17 => ?_) (fun b17 => ?_)
    · skip
      have hkn : nC ≤ k := (nI_leI (by omega) (by omega)).mp b17
      have hno : ¬ tied_ C nC S a t := fun ⟨c, h1, h2⟩ => hI c (by omega) h2
      refine v_iconst (v := 0) dX0_isTied_55 (by decide) ?_
      exact v_reti dX0_isTied_56 rfl (Pu_i (b2c_f hno).symm)
    · skip
      have hkn : k < nC := Nat.lt_of_not_le (fun z => b17 ((nI_leI (by omega) (by omega)).mpr z))
      refine v_aload_n dX0_isTied_20 rfl rfl ?_
      refine v_iload_n dX0_isTied_21 rfl rfl ?_
      refine v_iload_n dX0_isTied_22 rfl rfl ?_
      refine v_pV mtX0_isInForce q635 q637 qs13 rfl (by decide) dX0_isTied_23 (c_X0_isInForce hq ?_ _) hX.1 (by first | decide | omega) ?_
      · first | assumption | omega
      refine v_if_eq (tgt := 49) dX0_isTied_26 (by decide) (fun b26 => ?_) (fun b26 => ?_)
      · skip
        rw [b2i_0] at b26
        have hkk : ¬ tie_ C S a t k := fun z => b26 ⟨z.1, z.2.2.2⟩
        refine v_iinc dX0_isTied_49 rfl (by first | with_reducible exact nI_inc _ | exact rfl) (by decide) ?_
        refine v_goto (tgt := 2) dX0_isTied_52 (by decide) ?_
        have hI9 : ∀ c, c < k + 1 → ¬ tie_ C S a t c := fun c hc => by
          rcases Nat.lt_or_ge c k with z | z
          · exact hI c z
          · obtain rfl : c = k := by omega
            exact hkk
        exact v_loc2 (by repeat' (first | exact trivial | refine And.intro ?_ ?_ | exact rfl)) (IH (k + 1) ⟨hkn, hI9⟩ (by omega))
      · skip
        rw [b2i_n0] at b26
        refine v_aload_n dX0_isTied_29 rfl rfl ?_
        refine v_getR fX0_45 dX0_isTied_30 hX.1 (xc_Rcontrols hX.2.2.2.2) ?_
        refine v_iload_n dX0_isTied_33 rfl rfl ?_
        refine v_pV mtJ2_get q621 q607 q608 rfl (by decide) dX0_isTied_34 (c_J2_get hCA rfl (by first | assumption | omega)) (hCA).1 (by first | decide | omega) ?_
        refine v_castU (cl_KO (hCE _ (by first | assumption | omega))) q639 dX0_isTied_37 ?_
        refine v_iload_n dX0_isTied_40 rfl rfl ?_
        refine v_pU dlX21_ties q647 dX0_isTied_41 (dp_ties (hCE _ (by first | assumption | omega)) _ ) (by first | decide | omega) ?_
        refine v_if_eq (tgt := 49) dX0_isTied_44 (by decide) (fun b44 => ?_) (fun b44 => ?_)
        · skip
          rw [b2i_0] at b44
          have hkk : ¬ tie_ C S a t k := fun z => b44 ⟨z.2.1, z.2.2.1.symm⟩
          refine v_iinc dX0_isTied_49 rfl (by first | with_reducible exact nI_inc _ | exact rfl) (by decide) ?_
          refine v_goto (tgt := 2) dX0_isTied_52 (by decide) ?_
          have hI9 : ∀ c, c < k + 1 → ¬ tie_ C S a t c := fun c hc => by
            rcases Nat.lt_or_ge c k with z | z
            · exact hI c z
            · obtain rfl : c = k := by omega
              exact hkk
          exact v_loc2 (by repeat' (first | exact trivial | refine And.intro ?_ ?_ | exact rfl)) (IH (k + 1) ⟨hkn, hI9⟩ (by omega))
        · skip
          rw [b2i_n0] at b44
          refine v_iconst (v := 1) dX0_isTied_47 (by decide) ?_
          exact v_reti dX0_isTied_48 rfl (Pu_i (b2c_t ⟨k, hkn, b26.1, b44.1, b44.2.symm, b26.2⟩).symm)

