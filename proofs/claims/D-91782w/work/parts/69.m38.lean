set_option maxRecDepth 100000
/-- a join over an int and the heap -/
theorem v_joinH {G : Gv} {d : Nat} {own nm : String} {cc : ByteArray} {nL : Nat} {ret : Option FieldType} {mc ms : Nat} {Q : Option Value → AH → Prop} {pc : Nat} {l : List (Nat × Value)} {st : List Value} {h : AH} (pcJ : Nat) (φ : Int32 → AH → Prop) (hj : ∀ z hh, φ z hh → Vv G d own nm cc nL ret mc ms Q pcJ l (.int z :: st) hh) (hk : (∀ z hh, φ z hh → Vv G d own nm cc nL ret mc ms Q pcJ l (.int z :: st) hh) → Vv G d own nm cc nL ret mc ms Q pc l st h) : Vv G d own nm cc nL ret mc ms Q pc l st h := hk hj
theorem RS_A {T : Nat → Nat} {n : Nat} {h : AH} {s : Nat × Nat × Nat} (a : RS_ T n h s) {p k : Nat} {v : Int32} (h1 : p ≠ 241) (h2 : p ≠ 253) : RS_ T n (up_I h p k v) s := by
  obtain ⟨a1, ⟨t1, t2, t3⟩, a3, a4, a5, a6, a7, a8, a9, a10, a11⟩ := a
  refine ⟨a1, ⟨?_, t2, ?_⟩, a3, ?_, ?_, ?_, ?_, a8, ?_, ?_, a11⟩
  · rw [II_n (fun z => h1 z.symm)]; exact t1
  · rw [II_n (fun z => h2 z.symm)]; exact t3
  · rw [II_n (fun z => h1 z.symm)]; exact a4
  · rw [II_n (fun z => h1 z.symm)]; exact a5
  · rw [II_n (fun z => h1 z.symm)]; exact a6
  · rw [II_n (fun z => h1 z.symm)]; exact a7
  · rw [II_n (fun z => h1 z.symm)]; exact a9
  · rw [II_n (fun z => h1 z.symm)]; exact a10
/-- has a side; has a number -/
def ks9_ (k : Nat) : Prop := k = 0 ∨ k = 1 ∨ k = 5 ∨ k = 7
def km9_ (k : Nat) : Prop := k = 1 ∨ k = 2 ∨ k = 7
noncomputable def p1_ (T : Nat → Nat) (n k : Nat) (s : Nat × Nat × Nat) : Nat × Nat × Nat := cf_ (ks9_ k) (ps_9 T n s) s
noncomputable def p2_ (T : Nat → Nat) (n k : Nat) (s : Nat × Nat × Nat) : Nat × Nat × Nat := cf_ (km9_ k) (pr_9 T n 1 20 s) (cf_ (k = 3) (pr_9 T n 0 9 s) (cf_ (k = 6) (pr_9 T n 1 9 s) s))
/-- behind a step -/
noncomputable def st_9 (T : Nat → Nat) (n : Nat) (s : Nat × Nat × Nat) : Nat × Nat × Nat := p2_ T n (tk9_ T n s.1) (p1_ T n (tk9_ T n s.1) (pn_ T n s))
noncomputable def sd_9 (T : Nat → Nat) (n : Nat) (s : Nat × Nat × Nat) : Nat := cf_ (ks9_ (tk9_ T n s.1) ∧ pi_ T n 11 (pn_ T n s)) 1 0
noncomputable def mn_9 (T : Nat → Nat) (n : Nat) (s : Nat × Nat × Nat) : Nat := cf_ (km9_ (tk9_ T n s.1) ∨ tk9_ T n s.1 = 3 ∨ tk9_ T n s.1 = 6) (nv_ T n (p1_ T n (tk9_ T n s.1) (pn_ T n s)).1) 0
/-- what a step changes, its place i -/
def sf_9 (i : Nat) (h h' : AH) : Prop := hp_n h' = hp_n h ∧ hp_K h' = hp_K h ∧ hp_R h' = hp_R h ∧ (∀ p, p ≠ 241 → p < 255 ∨ 257 < p → hp_I h' p = hp_I h p) ∧ (∀ p, 255 ≤ p → p ≤ 257 → ∀ q, q ≠ i → hp_I h' p q = hp_I h p q) ∧ (∀ f, f < 26 ∨ f = 28 ∨ 32 < f → hp_I h' 241 f = hp_I h 241 f) ∧ ∀ p, p ≠ 241 → hp_L h' p = hp_L h p
theorem sf_rd {i : Nat} {h h1 : AH} (a : rd_9 h h1) : sf_9 i h h1 := ⟨a.1, a.2.1, a.2.2.1, fun p h1 _ => a.2.2.2.1 p h1, fun p h1 h2 q _ => by rw [a.2.2.2.1 p (by omega)], a.2.2.2.2.1, a.2.2.2.2.2⟩
theorem sf_tr {i : Nat} {h h1 h2 : AH} (a : sf_9 i h h1) (b : sf_9 i h1 h2) : sf_9 i h h2 := ⟨b.1.trans a.1, b.2.1.trans a.2.1, b.2.2.1.trans a.2.2.1, fun p h1 h2 => (b.2.2.2.1 p h1 h2).trans (a.2.2.2.1 p h1 h2), fun p h1 h2 q hq => (b.2.2.2.2.1 p h1 h2 q hq).trans (a.2.2.2.2.1 p h1 h2 q hq), fun f hf => (b.2.2.2.2.2.1 f hf).trans (a.2.2.2.2.2.1 f hf), fun p hp => (b.2.2.2.2.2.2 p hp).trans (a.2.2.2.2.2.2 p hp)⟩
theorem sf_I {i : Nat} {h h1 : AH} {p : Nat} {v : Int32} (a : sf_9 i h h1) (h5 : 255 ≤ p) (h7 : p ≤ 257) : sf_9 i h (up_I h1 p i v) := ⟨a.1, a.2.1, a.2.2.1, fun q h1 h2 => by rw [II_n (by omega)]; exact a.2.2.2.1 q h1 h2, fun q h1 h2 j hj => by rw [hp_I_I, if_neg (fun z => hj z.2)]; exact a.2.2.2.2.1 q h1 h2 j hj, fun f hf => by rw [II_n (by omega)]; exact a.2.2.2.2.2.1 f hf, a.2.2.2.2.2.2⟩
set_option maxHeartbeats 1000000 in
theorem c_X4_readsStep {G : Gv} (hG : gs_ok G) {T : Nat → Nat} {n : Nat} {h : AH} {s : Nat × Nat × Nat} (hS : RS_ T n h s) {w j : Nat} (hw : w < 8) (hj : j < 8) : Ctr G 8 yX4_readsStep cX4_readsStep 5 none [.ref 241, .int (nI w), .int (nI j)] h 0 0 (fun q h1 => q = none ∧ RS_ T n h1 (st_9 T n s) ∧ sf_9 (8 * (w + 8) + j) h h1 ∧ hp_I h1 255 (8 * (w + 8) + j) = nI (tk9_ T n s.1) ∧ hp_I h1 256 (8 * (w + 8) + j) = nI (sd_9 T n s) ∧ ((st_9 T n s).2.1 = 0 → hp_I h1 257 (8 * (w + 8) + j) = nI (mn_9 T n s))) := by
  refine ctr_of (own := RX4) (nm := "readsStep") (by decide) (Nat.le_of_ble_eq_true rfl) ?_
  have hS0 := hS
  have hm := hS.1
  have hr29 := hS.2.2.2.2.2.1
  have htl := tk_le T n s.1
  refine v_bipush (v := 8) dX4_readsStep_0 (by decide) ?_
  refine v_iload_n dX4_readsStep_2 rfl rfl ?_
  refine v_bipush (v := 8) dX4_readsStep_3 (by decide) ?_
  refine v_iadd dX4_readsStep_5 ?_
  refine v_imul dX4_readsStep_6 ?_
  refine v_iload_n dX4_readsStep_7 rfl rfl ?_
  refine v_iadd dX4_readsStep_8 ?_
  rw [show ((8 : Int32) * (nI w + 8) + nI j) = nI (8 * (w + 8) + j) from ix_add (ix_mul (ix_lit _) (ix_add rfl (ix_lit _))) rfl]
  refine v_istore_n dX4_readsStep_9 rfl (by decide) ?_
  refine v_aload_n dX4_readsStep_10 rfl rfl ?_
  refine v_getI fX4_229 dX4_readsStep_11 (mK_obj hm) ?_
  rw [hr29]
  refine v_istore dX4_readsStep_14 (by decide) ?_
  refine v_aload_n dX4_readsStep_16 rfl rfl ?_
  refine v_zV mtX4_next q1932 q1934 qs74 rfl (by decide) dX4_readsStep_17 (c_X4_nextS hG hS) (mK_obj hm) (by decide) (fun r17 h17 q17 z17 => ?_)
  obtain ⟨rfl, hS17, hf17⟩ := q17
  have hm : MI h17 := hS17.1
  refine v_aload_n dX4_readsStep_20 rfl rfl ?_
  refine v_getR fX4_57 dX4_readsStep_21 (mK_obj hm) (mR_kindOf hm) ?_ fcA_I
  refine v_iload_n dX4_readsStep_24 rfl rfl ?_
  refine v_iload dX4_readsStep_25 rfl ?_
  refine v_iast dX4_readsStep_27 (mK_kindOf hm) rfl (by first | assumption | omega) ?_
  have hS1 : RS_ T n (up_I h17 255 (8 * (w + 8) + j) (nI (tk9_ T n s.1))) (pn_ T n s) := RS_A hS17 (by decide) (by decide)
  have hm : MI (up_I h17 255 (8 * (w + 8) + j) (nI (tk9_ T n s.1))) := hS1.1
  refine v_aload_n dX4_readsStep_28 rfl rfl ?_
  refine v_getR fX4_60 dX4_readsStep_29 (mK_obj hm) (mR_sideOf hm) ?_ fcA_I
  refine v_iload_n dX4_readsStep_32 rfl rfl ?_
  refine v_joinH 65 (fun z hh => RS_ T n hh (p1_ T n (tk9_ T n s.1) (pn_ T n s)) ∧ z = nI (sd_9 T n s) ∧ rd_9 (up_I h17 255 (8 * (w + 8) + j) (nI (tk9_ T n s.1))) hh) (fun z hh hz65 => ?_) (fun hj65 => ?_)
  · skip
    obtain ⟨hSA, rfl, hfA⟩ := hz65
    have hm : MI hh := hSA.1
    generalize hgX : hh = hX at *
    refine v_iast dX4_readsStep_65 (mK_sideOf hm) rfl (by first | assumption | omega) ?_
    have hS2 : RS_ T n (up_I hX 256 (8 * (w + 8) + j) (nI (sd_9 T n s))) (p1_ T n (tk9_ T n s.1) (pn_ T n s)) := RS_A hSA (by decide) (by decide)
    have hm : MI (up_I hX 256 (8 * (w + 8) + j) (nI (sd_9 T n s))) := hS2.1
    refine v_aload_n dX4_readsStep_66 rfl rfl ?_
    refine v_getR fX4_63 dX4_readsStep_67 (mK_obj hm) (mR_manyOf hm) ?_ fcA_I
    refine v_iload_n dX4_readsStep_70 rfl rfl ?_
    refine v_joinH 134 (fun z hh => RS_ T n hh (st_9 T n s) ∧ ((st_9 T n s).2.1 = 0 → z = nI (mn_9 T n s)) ∧ rd_9 (up_I hX 256 (8 * (w + 8) + j) (nI (sd_9 T n s))) hh) (fun z hh hz134 => ?_) (fun hj134 => ?_)
    · skip
      obtain ⟨hSB, hzm, hfB⟩ := hz134
      have hm : MI hh := hSB.1
      refine v_iast dX4_readsStep_134 (mK_manyOf hm) rfl (by first | assumption | omega) ?_
      refine v_retv dX4_readsStep_135 trivial ⟨rfl, RS_A hSB (by decide) (by decide), (sf_I (sf_tr (sf_I (sf_tr (sf_I (sf_rd hf17) (by decide) (by decide)) (sf_rd hfA)) (by decide) (by decide)) (sf_rd hfB)) (by decide) (by decide)), ?_, ?_, fun y => ?_⟩
      · rw [II_n (by decide), hfB.2.2.2.1 255 (by decide), II_n (by decide), hfA.2.2.2.1 255 (by decide), hp_I_I, if_pos ⟨rfl, rfl⟩]
      · rw [II_n (by decide), hfB.2.2.2.1 256 (by decide), hp_I_I, if_pos ⟨rfl, rfl⟩]
      · rw [hp_I_I, if_pos ⟨rfl, rfl⟩]; exact hzm y
    · skip
      refine v_iload dX4_readsStep_71 rfl ?_
      refine v_iconst (v := nI 1) dX4_readsStep_73 (by decide) ?_
      refine v_icmp_eq (tgt := 90) dX4_readsStep_74 (by decide) (fun b74 => ?_) (fun b74 => ?_)
      · skip
        rw [nI_eq (by omega) (by decide)] at b74
        have hkm : km9_ (tk9_ T n s.1) := Or.inl b74
        have hst : st_9 T n s = pr_9 T n 1 20 (p1_ T n (tk9_ T n s.1) (pn_ T n s)) := by unfold st_9 p2_; rw [cf_t hkm]
        have hmn : mn_9 T n s = nv_ T n (p1_ T n (tk9_ T n s.1) (pn_ T n s)).1 := by unfold mn_9; rw [cf_t (Or.inl hkm)]
        refine v_aload_n dX4_readsStep_90 rfl rfl ?_
        refine v_iconst (v := nI 1) dX4_readsStep_91 (by decide) ?_
        refine v_bipush (v := nI 20) dX4_readsStep_92 (by decide) ?_
        refine v_zV mtX4_reads q1976 q1978 qs82 rfl (by decide) dX4_readsStep_94 (c_X4_reads (lo := 1) (hi := 20) hG hS2 (by decide) (by decide)) (mK_obj hm) (by decide) (fun r94 h94 q94 z94 => ?_)
        obtain ⟨⟨v94, rfl, hv94⟩, hS94, hf94⟩ := q94
        have hm : MI h94 := hS94.1
        refine v_goto (tgt := 134) dX4_readsStep_97 (by decide) ?_
        first | exact hj134 _ _ ⟨by rw [hst]; exact hS94, fun y => by rw [hst] at y; rw [hmn]; exact (hv94 y).1, hf94⟩ | exact hj134 _ _ ⟨by rw [hst]; exact hS110, fun y => by rw [hst] at y; rw [hmn]; exact (hv110 y).1, hf110⟩ | exact hj134 _ _ ⟨by rw [hst]; exact hS127, fun y => by rw [hst] at y; rw [hmn]; exact (hv127 y).1, hf127⟩ | exact hj134 _ _ ⟨by rw [hst]; exact hS2, fun y => by rw [hmn], rd_rf _⟩
      · skip
        rw [nI_eq (by omega) (by decide)] at b74
        refine v_iload dX4_readsStep_77 rfl ?_
        refine v_iconst (v := nI 2) dX4_readsStep_79 (by decide) ?_
        refine v_icmp_eq (tgt := 90) dX4_readsStep_80 (by decide) (fun b80 => ?_) (fun b80 => ?_)
        · skip
          rw [nI_eq (by omega) (by decide)] at b80
          have hkm : km9_ (tk9_ T n s.1) := Or.inr (Or.inl b80)
          have hst : st_9 T n s = pr_9 T n 1 20 (p1_ T n (tk9_ T n s.1) (pn_ T n s)) := by unfold st_9 p2_; rw [cf_t hkm]
          have hmn : mn_9 T n s = nv_ T n (p1_ T n (tk9_ T n s.1) (pn_ T n s)).1 := by unfold mn_9; rw [cf_t (Or.inl hkm)]
          refine v_aload_n dX4_readsStep_90 rfl rfl ?_
          refine v_iconst (v := nI 1) dX4_readsStep_91 (by decide) ?_
          refine v_bipush (v := nI 20) dX4_readsStep_92 (by decide) ?_
          refine v_zV mtX4_reads q1976 q1978 qs82 rfl (by decide) dX4_readsStep_94 (c_X4_reads (lo := 1) (hi := 20) hG hS2 (by decide) (by decide)) (mK_obj hm) (by decide) (fun r94 h94 q94 z94 => ?_)
          obtain ⟨⟨v94, rfl, hv94⟩, hS94, hf94⟩ := q94
          have hm : MI h94 := hS94.1
          refine v_goto (tgt := 134) dX4_readsStep_97 (by decide) ?_
          first | exact hj134 _ _ ⟨by rw [hst]; exact hS94, fun y => by rw [hst] at y; rw [hmn]; exact (hv94 y).1, hf94⟩ | exact hj134 _ _ ⟨by rw [hst]; exact hS110, fun y => by rw [hst] at y; rw [hmn]; exact (hv110 y).1, hf110⟩ | exact hj134 _ _ ⟨by rw [hst]; exact hS127, fun y => by rw [hst] at y; rw [hmn]; exact (hv127 y).1, hf127⟩ | exact hj134 _ _ ⟨by rw [hst]; exact hS2, fun y => by rw [hmn], rd_rf _⟩
        · skip
          rw [nI_eq (by omega) (by decide)] at b80
          refine v_iload dX4_readsStep_83 rfl ?_
          refine v_bipush (v := nI 7) dX4_readsStep_85 (by decide) ?_
          refine v_icmp_ne (tgt := 100) dX4_readsStep_87 (by decide) (fun b87 => ?_) (fun b87 => ?_)
          · skip
            rw [nI_eq (by omega) (by decide)] at b87
            have hkm : ¬ km9_ (tk9_ T n s.1) := fun z => by unfold km9_ at z; omega
            refine v_iload dX4_readsStep_100 rfl ?_
            refine v_iconst (v := nI 3) dX4_readsStep_102 (by decide) ?_
            refine v_icmp_ne (tgt := 116) dX4_readsStep_103 (by decide) (fun b103 => ?_) (fun b103 => ?_)
            · skip
              rw [nI_eq (by omega) (by decide)] at b103
              refine v_iload dX4_readsStep_116 rfl ?_
              refine v_bipush (v := nI 6) dX4_readsStep_118 (by decide) ?_
              refine v_icmp_ne (tgt := 133) dX4_readsStep_120 (by decide) (fun b120 => ?_) (fun b120 => ?_)
              · skip
                rw [nI_eq (by omega) (by decide)] at b120
                have hst : st_9 T n s = p1_ T n (tk9_ T n s.1) (pn_ T n s) := by unfold st_9 p2_; rw [cf_f hkm, cf_f b103, cf_f b120]
                have hmn : mn_9 T n s = 0 := by unfold mn_9; rw [cf_f (fun y => y.elim hkm (fun u => u.elim b103 b120))]
                refine v_iconst (v := nI 0) dX4_readsStep_133 (by decide) ?_
                first | exact hj134 _ _ ⟨by rw [hst]; exact hS94, fun y => by rw [hst] at y; rw [hmn]; exact (hv94 y).1, hf94⟩ | exact hj134 _ _ ⟨by rw [hst]; exact hS110, fun y => by rw [hst] at y; rw [hmn]; exact (hv110 y).1, hf110⟩ | exact hj134 _ _ ⟨by rw [hst]; exact hS127, fun y => by rw [hst] at y; rw [hmn]; exact (hv127 y).1, hf127⟩ | exact hj134 _ _ ⟨by rw [hst]; exact hS2, fun y => by rw [hmn], rd_rf _⟩
              · skip
                rw [nI_eq (by omega) (by decide)] at b120
                have hst : st_9 T n s = pr_9 T n 1 9 (p1_ T n (tk9_ T n s.1) (pn_ T n s)) := by unfold st_9 p2_; rw [cf_f hkm, cf_f b103, cf_t b120]
                have hmn : mn_9 T n s = nv_ T n (p1_ T n (tk9_ T n s.1) (pn_ T n s)).1 := by unfold mn_9; rw [cf_t (Or.inr (Or.inr b120))]
                refine v_aload_n dX4_readsStep_123 rfl rfl ?_
                refine v_iconst (v := nI 1) dX4_readsStep_124 (by decide) ?_
                refine v_bipush (v := nI 9) dX4_readsStep_125 (by decide) ?_
                refine v_zV mtX4_reads q1976 q1978 qs82 rfl (by decide) dX4_readsStep_127 (c_X4_reads (lo := 1) (hi := 9) hG hS2 (by decide) (by decide)) (mK_obj hm) (by decide) (fun r127 h127 q127 z127 => ?_)
                obtain ⟨⟨v127, rfl, hv127⟩, hS127, hf127⟩ := q127
                have hm : MI h127 := hS127.1
                refine v_goto (tgt := 134) dX4_readsStep_130 (by decide) ?_
                first | exact hj134 _ _ ⟨by rw [hst]; exact hS94, fun y => by rw [hst] at y; rw [hmn]; exact (hv94 y).1, hf94⟩ | exact hj134 _ _ ⟨by rw [hst]; exact hS110, fun y => by rw [hst] at y; rw [hmn]; exact (hv110 y).1, hf110⟩ | exact hj134 _ _ ⟨by rw [hst]; exact hS127, fun y => by rw [hst] at y; rw [hmn]; exact (hv127 y).1, hf127⟩ | exact hj134 _ _ ⟨by rw [hst]; exact hS2, fun y => by rw [hmn], rd_rf _⟩
            · skip
              rw [nI_eq (by omega) (by decide)] at b103
              have hst : st_9 T n s = pr_9 T n 0 9 (p1_ T n (tk9_ T n s.1) (pn_ T n s)) := by unfold st_9 p2_; rw [cf_f hkm, cf_t b103]
              have hmn : mn_9 T n s = nv_ T n (p1_ T n (tk9_ T n s.1) (pn_ T n s)).1 := by unfold mn_9; rw [cf_t (Or.inr (Or.inl b103))]
              refine v_aload_n dX4_readsStep_106 rfl rfl ?_
              refine v_iconst (v := nI 0) dX4_readsStep_107 (by decide) ?_
              refine v_bipush (v := nI 9) dX4_readsStep_108 (by decide) ?_
              refine v_zV mtX4_reads q1976 q1978 qs82 rfl (by decide) dX4_readsStep_110 (c_X4_reads (lo := 0) (hi := 9) hG hS2 (by decide) (by decide)) (mK_obj hm) (by decide) (fun r110 h110 q110 z110 => ?_)
              obtain ⟨⟨v110, rfl, hv110⟩, hS110, hf110⟩ := q110
              have hm : MI h110 := hS110.1
              refine v_goto (tgt := 134) dX4_readsStep_113 (by decide) ?_
              first | exact hj134 _ _ ⟨by rw [hst]; exact hS94, fun y => by rw [hst] at y; rw [hmn]; exact (hv94 y).1, hf94⟩ | exact hj134 _ _ ⟨by rw [hst]; exact hS110, fun y => by rw [hst] at y; rw [hmn]; exact (hv110 y).1, hf110⟩ | exact hj134 _ _ ⟨by rw [hst]; exact hS127, fun y => by rw [hst] at y; rw [hmn]; exact (hv127 y).1, hf127⟩ | exact hj134 _ _ ⟨by rw [hst]; exact hS2, fun y => by rw [hmn], rd_rf _⟩
          · skip
            rw [nI_eq (by omega) (by decide)] at b87
            have hkm : km9_ (tk9_ T n s.1) := Or.inr (Or.inr b87)
            have hst : st_9 T n s = pr_9 T n 1 20 (p1_ T n (tk9_ T n s.1) (pn_ T n s)) := by unfold st_9 p2_; rw [cf_t hkm]
            have hmn : mn_9 T n s = nv_ T n (p1_ T n (tk9_ T n s.1) (pn_ T n s)).1 := by unfold mn_9; rw [cf_t (Or.inl hkm)]
            refine v_aload_n dX4_readsStep_90 rfl rfl ?_
            refine v_iconst (v := nI 1) dX4_readsStep_91 (by decide) ?_
            refine v_bipush (v := nI 20) dX4_readsStep_92 (by decide) ?_
            refine v_zV mtX4_reads q1976 q1978 qs82 rfl (by decide) dX4_readsStep_94 (c_X4_reads (lo := 1) (hi := 20) hG hS2 (by decide) (by decide)) (mK_obj hm) (by decide) (fun r94 h94 q94 z94 => ?_)
            obtain ⟨⟨v94, rfl, hv94⟩, hS94, hf94⟩ := q94
            have hm : MI h94 := hS94.1
            refine v_goto (tgt := 134) dX4_readsStep_97 (by decide) ?_
            first | exact hj134 _ _ ⟨by rw [hst]; exact hS94, fun y => by rw [hst] at y; rw [hmn]; exact (hv94 y).1, hf94⟩ | exact hj134 _ _ ⟨by rw [hst]; exact hS110, fun y => by rw [hst] at y; rw [hmn]; exact (hv110 y).1, hf110⟩ | exact hj134 _ _ ⟨by rw [hst]; exact hS127, fun y => by rw [hst] at y; rw [hmn]; exact (hv127 y).1, hf127⟩ | exact hj134 _ _ ⟨by rw [hst]; exact hS2, fun y => by rw [hmn], rd_rf _⟩
  · skip
    refine v_iload dX4_readsStep_33 rfl ?_
    refine v_if_eq (tgt := 57) dX4_readsStep_35 (by decide) (fun b35 => ?_) (fun b35 => ?_)
    · skip
      have hk0 : tk9_ T n s.1 = 0 := (nI_eq (by omega) (by decide)).mp (show nI (tk9_ T n s.1) = nI 0 from b35)
      have hks : ks9_ (tk9_ T n s.1) := Or.inl hk0
      refine v_aload_n dX4_readsStep_57 rfl rfl ?_
      refine v_zV mtX4_readsSide q1972 q1974 qs81 rfl (by decide) dX4_readsStep_58 (c_X4_readsSide hG hS1) (mK_obj hm) (by decide) (fun r58 h58 q58 z58 => ?_)
      obtain ⟨rfl, hS58, hf58⟩ := q58
      have hm : MI h58 := hS58.1
      refine v_goto (tgt := 65) dX4_readsStep_61 (by decide) ?_
      first | exact hj65 _ _ ⟨by unfold p1_; rw [cf_t hks]; exact hS58, (by unfold sd_9; by_cases y : pi_ T n 11 (pn_ T n s); (rw [b2c_t y, cf_t ⟨hks, y⟩]; rfl); (rw [b2c_f y, cf_f (fun u => y u.2)]; rfl)), hf58⟩ | exact hj65 _ _ ⟨by unfold p1_; rw [cf_f hks]; exact hS1, (by unfold sd_9; rw [cf_f (fun u => hks u.1)]), rd_rf _⟩
    · skip
      have hk0 : ¬ tk9_ T n s.1 = 0 := fun z => b35 (by rw [z]; rfl)
      refine v_iload dX4_readsStep_38 rfl ?_
      refine v_iconst (v := nI 1) dX4_readsStep_40 (by decide) ?_
      refine v_icmp_eq (tgt := 57) dX4_readsStep_41 (by decide) (fun b41 => ?_) (fun b41 => ?_)
      · skip
        rw [nI_eq (by omega) (by decide)] at b41
        have hks : ks9_ (tk9_ T n s.1) := Or.inr (Or.inl b41)
        refine v_aload_n dX4_readsStep_57 rfl rfl ?_
        refine v_zV mtX4_readsSide q1972 q1974 qs81 rfl (by decide) dX4_readsStep_58 (c_X4_readsSide hG hS1) (mK_obj hm) (by decide) (fun r58 h58 q58 z58 => ?_)
        obtain ⟨rfl, hS58, hf58⟩ := q58
        have hm : MI h58 := hS58.1
        refine v_goto (tgt := 65) dX4_readsStep_61 (by decide) ?_
        first | exact hj65 _ _ ⟨by unfold p1_; rw [cf_t hks]; exact hS58, (by unfold sd_9; by_cases y : pi_ T n 11 (pn_ T n s); (rw [b2c_t y, cf_t ⟨hks, y⟩]; rfl); (rw [b2c_f y, cf_f (fun u => y u.2)]; rfl)), hf58⟩ | exact hj65 _ _ ⟨by unfold p1_; rw [cf_f hks]; exact hS1, (by unfold sd_9; rw [cf_f (fun u => hks u.1)]), rd_rf _⟩
      · skip
        rw [nI_eq (by omega) (by decide)] at b41
        refine v_iload dX4_readsStep_44 rfl ?_
        refine v_iconst (v := nI 5) dX4_readsStep_46 (by decide) ?_
        refine v_icmp_eq (tgt := 57) dX4_readsStep_47 (by decide) (fun b47 => ?_) (fun b47 => ?_)
        · skip
          rw [nI_eq (by omega) (by decide)] at b47
          have hks : ks9_ (tk9_ T n s.1) := Or.inr (Or.inr (Or.inl b47))
          refine v_aload_n dX4_readsStep_57 rfl rfl ?_
          refine v_zV mtX4_readsSide q1972 q1974 qs81 rfl (by decide) dX4_readsStep_58 (c_X4_readsSide hG hS1) (mK_obj hm) (by decide) (fun r58 h58 q58 z58 => ?_)
          obtain ⟨rfl, hS58, hf58⟩ := q58
          have hm : MI h58 := hS58.1
          refine v_goto (tgt := 65) dX4_readsStep_61 (by decide) ?_
          first | exact hj65 _ _ ⟨by unfold p1_; rw [cf_t hks]; exact hS58, (by unfold sd_9; by_cases y : pi_ T n 11 (pn_ T n s); (rw [b2c_t y, cf_t ⟨hks, y⟩]; rfl); (rw [b2c_f y, cf_f (fun u => y u.2)]; rfl)), hf58⟩ | exact hj65 _ _ ⟨by unfold p1_; rw [cf_f hks]; exact hS1, (by unfold sd_9; rw [cf_f (fun u => hks u.1)]), rd_rf _⟩
        · skip
          rw [nI_eq (by omega) (by decide)] at b47
          refine v_iload dX4_readsStep_50 rfl ?_
          refine v_bipush (v := nI 7) dX4_readsStep_52 (by decide) ?_
          refine v_icmp_ne (tgt := 64) dX4_readsStep_54 (by decide) (fun b54 => ?_) (fun b54 => ?_)
          · skip
            rw [nI_eq (by omega) (by decide)] at b54
            have hks : ¬ ks9_ (tk9_ T n s.1) := fun z => by unfold ks9_ at z; omega
            refine v_iconst (v := nI 0) dX4_readsStep_64 (by decide) ?_
            first | exact hj65 _ _ ⟨by unfold p1_; rw [cf_t hks]; exact hS58, (by unfold sd_9; by_cases y : pi_ T n 11 (pn_ T n s); (rw [b2c_t y, cf_t ⟨hks, y⟩]; rfl); (rw [b2c_f y, cf_f (fun u => y u.2)]; rfl)), hf58⟩ | exact hj65 _ _ ⟨by unfold p1_; rw [cf_f hks]; exact hS1, (by unfold sd_9; rw [cf_f (fun u => hks u.1)]), rd_rf _⟩
          · skip
            rw [nI_eq (by omega) (by decide)] at b54
            have hks : ks9_ (tk9_ T n s.1) := Or.inr (Or.inr (Or.inr b54))
            refine v_aload_n dX4_readsStep_57 rfl rfl ?_
            refine v_zV mtX4_readsSide q1972 q1974 qs81 rfl (by decide) dX4_readsStep_58 (c_X4_readsSide hG hS1) (mK_obj hm) (by decide) (fun r58 h58 q58 z58 => ?_)
            obtain ⟨rfl, hS58, hf58⟩ := q58
            have hm : MI h58 := hS58.1
            refine v_goto (tgt := 65) dX4_readsStep_61 (by decide) ?_
            first | exact hj65 _ _ ⟨by unfold p1_; rw [cf_t hks]; exact hS58, (by unfold sd_9; by_cases y : pi_ T n 11 (pn_ T n s); (rw [b2c_t y, cf_t ⟨hks, y⟩]; rfl); (rw [b2c_f y, cf_f (fun u => y u.2)]; rfl)), hf58⟩ | exact hj65 _ _ ⟨by unfold p1_; rw [cf_f hks]; exact hS1, (by unfold sd_9; rw [cf_f (fun u => hks u.1)]), rd_rf _⟩

