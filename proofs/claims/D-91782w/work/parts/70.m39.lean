set_option maxRecDepth 100000
noncomputable def w2_9 (T : Nat → Nat) (n : Nat) (s : Nat × Nat × Nat) : Nat × Nat × Nat := cf_ (pi_ T n 12 (pn_ T n s)) (pn_ T n s) (pf_ T n 2 (pn_ T n s))
noncomputable def w3_9 (T : Nat → Nat) (n : Nat) (nm : Nat → Int64) (s : Nat × Nat × Nat) (i : Nat) : Nat × Nat × Nat := cf_ (pi_ T n 12 (w2_9 T n s) ∧ ∃ q, q < i ∧ nm q = nw_9 T n (w2_9 T n s).1) (pf_ T n 4 (w2_9 T n s)) (w2_9 T n s)
/-- behind so many steps -/
noncomputable def wl_ (T : Nat → Nat) (n : Nat) (b : Nat × Nat × Nat) : Nat → Nat × Nat × Nat
  | 0 => b
  | j + 1 => st_9 T n (wl_ T n b j)
def cs_9 (T : Nat → Nat) (n : Nat) (s : Nat × Nat × Nat) : Prop := s.2.1 = 0 ∧ tk9_ T n s.1 ≤ 7
noncomputable def wc_9 (T : Nat → Nat) (n : Nat) (b : Nat × Nat × Nat) : Nat := re_ (fun j => cs_9 T n (wl_ T n b j)) 8 0
noncomputable def we_9 (T : Nat → Nat) (n : Nat) (b : Nat × Nat × Nat) : Nat × Nat × Nat := cf_ (cs_9 T n (wl_ T n b (wc_9 T n b))) (pf_ T n 5 (wl_ T n b (wc_9 T n b))) (wl_ T n b (wc_9 T n b))
noncomputable def ry_9 (T : Nat → Nat) (n m : Nat) (nm : Nat → Int64) (s : Nat × Nat × Nat) : Nat × Nat × Nat := cf_ (m = 8) (pf_ T n 5 s) (cf_ (¬ (w3_9 T n nm s m).2.1 = 0) (w3_9 T n nm s m) (pd_ T n 14 (we_9 T n (pn_ T n (w3_9 T n nm s m)))))
/-- the state of the loop over steps -/
noncomputable def wx_ (T : Nat → Nat) (n : Nat) (b : Nat × Nat × Nat) (j : Nat) : Nat × Nat × Nat := cf_ (j ≤ 8) (wl_ T n b j) (pf_ T n 5 (wl_ T n b 8))
theorem tk_sm {T : Nat → Nat} {n a : Nat} (h : tk9_ T n a = 12) : sm9_ T n a := by
  refine Classical.byContradiction fun z => ?_
  unfold tk9_ at h
  by_cases h1 : n ≤ a
  · rw [cf_t h1] at h; omega
  · rw [cf_f h1, cf_f z] at h
    by_cases h3 : dg9_ T n a
    · rw [cf_t h3] at h
      by_cases h4 : 3 < te_ T n a - a
      · rw [cf_t h4] at h; omega
      · rw [cf_f h4] at h; omega
    · rw [cf_f h3] at h
      by_cases h4 : T a = 59
      · rw [cf_t h4] at h; omega
      · rw [cf_f h4] at h; omega
/-- what the reading of a way changes -/
def wf_9 (m : Nat) (h h' : AH) : Prop := hp_n h' = hp_n h ∧ hp_K h' = hp_K h ∧ hp_R h' = hp_R h ∧ (∀ p, p ≠ 241 → p < 254 ∨ 257 < p → hp_I h' p = hp_I h p) ∧ (∀ p, 255 ≤ p → p ≤ 257 → ∀ q, q < 8 * (m + 8) ∨ 8 * (m + 8) + 8 ≤ q → hp_I h' p q = hp_I h p q) ∧ (∀ q, q ≠ 8 + m → hp_I h' 254 q = hp_I h 254 q) ∧ (∀ f, f < 23 ∨ f = 24 ∨ f = 25 ∨ f = 28 ∨ 32 < f → hp_I h' 241 f = hp_I h 241 f) ∧ (∀ p, p ≠ 241 → p ≠ 258 → hp_L h' p = hp_L h p) ∧ ∀ i, i ≠ m → hp_L h' 258 i = hp_L h 258 i
theorem wf_rd {m : Nat} {h h1 : AH} (a : rd_9 h h1) : wf_9 m h h1 := ⟨a.1, a.2.1, a.2.2.1, fun p h1 _ => a.2.2.2.1 p h1, fun p h1 h2 q _ => by rw [a.2.2.2.1 p (by omega)], fun q _ => by rw [a.2.2.2.1 254 (by decide)], fun f hf => a.2.2.2.2.1 f (by omega), fun p h1 _ => a.2.2.2.2.2 p h1, fun i _ => by rw [a.2.2.2.2.2 258 (by decide)]⟩
theorem wf_sf {m j : Nat} (hj : j < 8) {h h1 : AH} (a : sf_9 (8 * (m + 8) + j) h h1) : wf_9 m h h1 := ⟨a.1, a.2.1, a.2.2.1, fun p h1 h2 => a.2.2.2.1 p h1 (by omega), fun p h1 h2 q hq => a.2.2.2.2.1 p h1 h2 q (by omega), fun q _ => by rw [a.2.2.2.1 254 (by decide) (by decide)], fun f hf => a.2.2.2.2.2.1 f (by omega), fun p h1 _ => a.2.2.2.2.2.2 p h1, fun i _ => by rw [a.2.2.2.2.2.2 258 (by decide)]⟩
theorem wf_tr {m : Nat} {h h1 h2 : AH} (a : wf_9 m h h1) (b : wf_9 m h1 h2) : wf_9 m h h2 := ⟨b.1.trans a.1, b.2.1.trans a.2.1, b.2.2.1.trans a.2.2.1, fun p h1 h2 => (b.2.2.2.1 p h1 h2).trans (a.2.2.2.1 p h1 h2), fun p h1 h2 q hq => (b.2.2.2.2.1 p h1 h2 q hq).trans (a.2.2.2.2.1 p h1 h2 q hq), fun q hq => (b.2.2.2.2.2.1 q hq).trans (a.2.2.2.2.2.1 q hq), fun f hf => (b.2.2.2.2.2.2.1 f hf).trans (a.2.2.2.2.2.2.1 f hf), fun p h1 h2 => (b.2.2.2.2.2.2.2.1 p h1 h2).trans (a.2.2.2.2.2.2.2.1 p h1 h2), fun i hi => (b.2.2.2.2.2.2.2.2 i hi).trans (a.2.2.2.2.2.2.2.2 i hi)⟩
theorem wf_L {m : Nat} {h h1 : AH} {v : Int64} (a : wf_9 m h h1) : wf_9 m h (up_L h1 258 m v) := ⟨a.1, a.2.1, a.2.2.1, a.2.2.2.1, a.2.2.2.2.1, a.2.2.2.2.2.1, a.2.2.2.2.2.2.1, fun p h1 h2 => (funext fun j => by rw [hp_L_L, if_neg (fun z => h2 z.1), a.2.2.2.2.2.2.2.1 p h1 h2]), fun i hi => by rw [hp_L_L, if_neg (fun z => hi z.2)]; exact a.2.2.2.2.2.2.2.2 i hi⟩
theorem wf_S {m : Nat} {h h1 : AH} {v : Int32} (a : wf_9 m h h1) : wf_9 m h (up_I h1 254 (8 + m) v) := ⟨a.1, a.2.1, a.2.2.1, fun p h1 h2 => by rw [II_n (by omega)]; exact a.2.2.2.1 p h1 h2, fun p h1 h2 q hq => by rw [II_n (by omega)]; exact a.2.2.2.2.1 p h1 h2 q hq, fun q hq => by rw [hp_I_I, if_neg (fun z => hq z.2)]; exact a.2.2.2.2.2.1 q hq, fun f hf => by rw [II_n (by decide)]; exact a.2.2.2.2.2.2.1 f hf, a.2.2.2.2.2.2.2.1, a.2.2.2.2.2.2.2.2⟩
theorem wf_f {m : Nat} {h h1 : AH} {v : Int32} (a : wf_9 m h h1) : wf_9 m h (up_I h1 241 23 v) := ⟨a.1, a.2.1, a.2.2.1, fun p h1 h2 => by rw [II_n h1]; exact a.2.2.2.1 p h1 h2, fun p h1 h2 q hq => by rw [II_n (by omega)]; exact a.2.2.2.2.1 p h1 h2 q hq, fun q hq => by rw [II_n (by decide)]; exact a.2.2.2.2.2.1 q hq, fun f hf => by rw [hp_I_I, if_neg (by omega)]; exact a.2.2.2.2.2.2.1 f hf, a.2.2.2.2.2.2.2.1, a.2.2.2.2.2.2.2.2⟩
theorem RS_L {T : Nat → Nat} {n : Nat} {h : AH} {s : Nat × Nat × Nat} (a : RS_ T n h s) {p k : Nat} {v : Int64} (h1 : p ≠ 241) : RS_ T n (up_L h p k v) s := by
  obtain ⟨a1, a2, a3, a4, a5, a6, a7, a8, a9, a10, a11⟩ := a
  exact ⟨a1, a2, a3, a4, a5, a6, a7, fun z => by rw [hp_L_L, if_neg (fun y => h1 y.1.symm)]; exact a8 z, a9, a10, a11⟩
theorem RS_23 {T : Nat → Nat} {n : Nat} {h : AH} {s : Nat × Nat × Nat} (a : RS_ T n h s) {f : Nat} {v : Int32} (hf : f < 26) : RS_ T n (up_I h 241 f v) s := by
  obtain ⟨a1, ⟨t1, t2, t3⟩, a3, a4, a5, a6, a7, a8, a9, a10, a11⟩ := a
  refine ⟨a1, ⟨?_, t2, ?_⟩, a3, ?_, ?_, ?_, fun z => ?_, a8, ?_, fun z => ?_, a11⟩
  · rw [hp_I_I, if_neg (by omega)]; exact t1
  · rw [II_n (by decide)]; exact t3
  · rw [hp_I_I, if_neg (by omega)]; exact a4
  · rw [hp_I_I, if_neg (by omega)]; exact a5
  · rw [hp_I_I, if_neg (by omega)]; exact a6
  · rw [hp_I_I, if_neg (by omega)]; exact a7 z
  · rw [hp_I_I, if_neg (by omega)]; exact a9
  · rw [hp_I_I, if_neg (by omega)]; exact a10 z
theorem lg_eq {x y : Int64} : lg_cmp x y = 0 ↔ x = y := by
  constructor
  · intro h
    refine Classical.byContradiction fun z => ?_
    unfold lg_cmp at h
    split at h
    · exact absurd h (by decide)
    · first | exact absurd h (by decide) | (split at h <;> first | exact absurd h (by decide) | exact z (by assumption))
  · rintro rfl
    unfold lg_cmp
    simp
theorem pd_0 {T : Nat → Nat} {n k : Nat} {s : Nat × Nat × Nat} (h : (pd_ T n k s).2.1 = 0) : s.2.1 = 0 := by
  refine Classical.byContradiction fun z => ?_
  unfold pd_ at h
  rw [cf_f (fun y => z y.1)] at h
  exact pf_ne (T := T) (n := n) (f := 2) (by decide) h
theorem w3_no {T : Nat → Nat} {n i : Nat} {nm : Nat → Int64} {s : Nat × Nat × Nat} (h : ¬ pi_ T n 12 (w3_9 T n nm s i)) : w3_9 T n nm s (i + 1) = w3_9 T n nm s i := by
  by_cases p : pi_ T n 12 (w2_9 T n s)
  · by_cases y : ∃ q, q < i ∧ nm q = nw_9 T n (w2_9 T n s).1
    · unfold w3_9
      rw [cf_t ⟨p, y.elim fun q z => ⟨q, by omega, z.2⟩⟩, cf_t ⟨p, y⟩]
    · unfold w3_9 at h
      rw [cf_f (fun z => y z.2)] at h
      exact absurd p h
  · unfold w3_9
    rw [cf_f (fun z => p z.1), cf_f (fun z => p z.1)]
theorem w3_yes {T : Nat → Nat} {n i : Nat} {nm : Nat → Int64} {s : Nat × Nat × Nat} (h : pi_ T n 12 (w3_9 T n nm s i)) : w3_9 T n nm s i = w2_9 T n s ∧ pi_ T n 12 (w2_9 T n s) := by
  by_cases p : pi_ T n 12 (w2_9 T n s) ∧ ∃ q, q < i ∧ nm q = nw_9 T n (w2_9 T n s).1
  · unfold w3_9 at h
    rw [cf_t p] at h
    exact absurd h.1 (pf_ne (by decide))
  · unfold w3_9 at h ⊢
    rw [cf_f p] at h ⊢
    exact ⟨rfl, h⟩
theorem w3_ne {T : Nat → Nat} {n i : Nat} {nm : Nat → Int64} {s : Nat × Nat × Nat} (he : w3_9 T n nm s i = w2_9 T n s) (h : ¬ nm i = nw_9 T n (w2_9 T n s).1) : w3_9 T n nm s (i + 1) = w3_9 T n nm s i := by
  by_cases p : pi_ T n 12 (w2_9 T n s) ∧ ∃ q, q < i ∧ nm q = nw_9 T n (w2_9 T n s).1
  · unfold w3_9
    rw [cf_t p, cf_t ⟨p.1, p.2.elim fun q z => ⟨q, by omega, z.2⟩⟩]
  · unfold w3_9
    rw [cf_f p, cf_f (fun z => p ⟨z.1, z.2.elim fun q y => ⟨q, Nat.lt_of_le_of_ne (by omega) (fun u => h (by rw [← u]; exact y.2)), y.2⟩⟩)]
theorem w3_eq {T : Nat → Nat} {n i : Nat} {nm : Nat → Int64} {s : Nat × Nat × Nat} (p : pi_ T n 12 (w2_9 T n s)) (h : nm i = nw_9 T n (w2_9 T n s).1) : w3_9 T n nm s (i + 1) = pf_ T n 4 (w2_9 T n s) := by
  unfold w3_9
  rw [cf_t ⟨p, i, by omega, h⟩]
theorem w3_sm {T : Nat → Nat} {n i : Nat} {nm : Nat → Int64} {s : Nat × Nat × Nat} (h : (w3_9 T n nm s i).2.1 = 0) : sm9_ T n (w3_9 T n nm s i).1 := by
  by_cases p : pi_ T n 12 (w2_9 T n s) ∧ ∃ q, q < i ∧ nm q = nw_9 T n (w2_9 T n s).1
  · unfold w3_9 at h
    rw [cf_t p] at h
    exact absurd h (pf_ne (by decide))
  · unfold w3_9 at h ⊢
    rw [cf_f p] at h ⊢
    by_cases y : pi_ T n 12 (pn_ T n s)
    · unfold w2_9 at h ⊢
      rw [cf_t y]
      exact tk_sm y.2
    · unfold w2_9 at h
      rw [cf_f y] at h
      exact absurd h (pf_ne (by decide))
theorem wx_end {T : Nat → Nat} {n j : Nat} {b : Nat × Nat × Nat} (hj : j ≤ 9) (h : re_ (fun j => cs_9 T n (wl_ T n b j)) 8 (min j 8) = wc_9 T n b) (h9 : j = 9 → cs_9 T n (wl_ T n b 8)) (hn : ¬ cs_9 T n (wx_ T n b j)) : we_9 T n b = wx_ T n b j ∧ (j ≤ 8 → wc_9 T n b = j) := by
  by_cases z : j ≤ 8
  · have e : wx_ T n b j = wl_ T n b j := cf_t z
    rw [e] at hn
    rw [Nat.min_eq_left z, re_f hn] at h
    unfold we_9
    rw [← h, cf_f hn, e]
    exact ⟨rfl, fun _ => rfl⟩
  · have e9 : j = 9 := by omega
    subst e9
    rw [show min 9 8 = 8 from rfl, re_n] at h
    unfold we_9
    rw [← h, cf_t (h9 rfl)]
    exact ⟨(cf_f (by decide)).symm, fun y => absurd y z⟩
set_option maxHeartbeats 2000000 in
theorem c_X4_readsWay {G : Gv} (hG : gs_ok G) {T : Nat → Nat} {n : Nat} {h : AH} {s : Nat × Nat × Nat} (hS : RS_ T n h s) {m : Nat} {nm : Nat → Int64} (hm8 : m ≤ 8) (hN23 : hp_I h 241 23 = nI m) (hw0 : s.2.1 = 0) (hnm : ∀ i, i < m → hp_L h 258 i = nm i) : Ctr G 9 yX4_readsWay cX4_readsWay 2 none [.ref 241] h 0 0 (fun q h1 => q = none ∧ RS_ T n h1 (ry_9 T n m nm s) ∧ wf_9 m h h1 ∧ ((ry_9 T n m nm s).2.1 = 0 → m < 8 ∧ hp_I h1 241 23 = nI (m + 1) ∧ hp_L h1 258 m = nw_9 T n (w3_9 T n nm s m).1 ∧ hp_I h1 254 (8 + m) = nI (wc_9 T n (pn_ T n (w3_9 T n nm s m))) ∧ ∀ q, q < wc_9 T n (pn_ T n (w3_9 T n nm s m)) → hp_I h1 255 (8 * (m + 8) + q) = nI (tk9_ T n (wl_ T n (pn_ T n (w3_9 T n nm s m)) q).1) ∧ hp_I h1 256 (8 * (m + 8) + q) = nI (sd_9 T n (wl_ T n (pn_ T n (w3_9 T n nm s m)) q)) ∧ hp_I h1 257 (8 * (m + 8) + q) = nI (mn_9 T n (wl_ T n (pn_ T n (w3_9 T n nm s m)) q)))) := by
  refine ctr_of (own := RX4) (nm := "readsWay") (by decide) (Nat.le_of_ble_eq_true rfl) ?_
  have hS0 := hS
  have hm := hS.1
  have hr31 := hS.2.2.2.2.2.2.2.2.1
  refine v_cutH 22 (fun hh => h = hh ∧ ¬ m = 8) (fun hh hz22 => ?_) (fun hc22 => ?_)
  · skip
    obtain ⟨rfl, hm7⟩ := hz22
    have hSa := hS0
    refine v_aload_n dX4_readsWay_22 rfl rfl ?_
    refine v_zV mtX4_next q1932 q1934 qs74 rfl (by decide) dX4_readsWay_23 (c_X4_nextS hG hSa) (mK_obj hm) (by decide) (fun r23 h23 q23 z23 => ?_)
    obtain ⟨rfl, hS23, hf23⟩ := q23
    have hm : MI h23 := hS23.1
    refine v_cutH 40 (fun hh => RS_ T n hh (w2_9 T n s) ∧ rd_9 h hh) (fun hh hz40 => ?_) (fun hc40 => ?_)
    · skip
      obtain ⟨hSc, hfc⟩ := hz40
      have hm : MI hh := hSc.1
      refine v_iconst (v := 0) dX4_readsWay_40 (by decide) ?_
      refine v_istore_n dX4_readsWay_41 rfl (by decide) ?_
      refine v_loc2 (by repeat' (first | with_reducible exact lsub_n | with_reducible refine lsub_c ?_ ?_ | with_reducible refine lk_hit ?_ | with_reducible refine lk_miss (by decide) ?_ ?_ | exact rfl)) (v_lp2 (fun (i : Nat) (hi : AH) => m - i) (fun (i : Nat) (hi : AH) => i ≤ m ∧ RS_ T n hi (w3_9 T n nm s i) ∧ rd_9 h hi) (fun (i : Nat) (hi : AH) => [(0, .ref 241), (1, .int (nI i))]) (fun (i : Nat) (hi : AH) => hi) ?_ 0 _ ⟨Nat.zero_le _, by unfold w3_9; rw [cf_f (fun z => z.2.elim fun q y => absurd y.1 (Nat.not_lt_zero q))]; exact hSc, hfc⟩)
      intro i hi hI IHi
      obtain ⟨hI1, hSi, hfi⟩ := hI
      have hm : MI hi := hSi.1
      have hI23 : hp_I hi 241 23 = nI m := by rw [hfi.2.2.2.2.1 23 (by omega)]; exact hN23
      have hInm : ∀ q, q < m → hp_L hi 258 q = nm q := fun q hq => by rw [hfi.2.2.2.2.2 258 (by decide)]; exact hnm q hq
      refine v_iload_n dX4_readsWay_42 rfl rfl ?_
      refine v_aload_n dX4_readsWay_43 rfl rfl ?_
      refine v_getI fX4_273 dX4_readsWay_44 (mK_obj hm) ?_
      rw [hI23]
      refine v_icmp_ge (tgt := 84) dX4_readsWay_47 (by decide) (fun b47 => ?_) (fun b47 => ?_)
      · skip
        rw [nI_leI (by omega) (by omega)] at b47
        have hk : m = i := by omega
        subst hk
        refine v_aload_n dX4_readsWay_84 rfl rfl ?_
        refine v_getI fX4_252 dX4_readsWay_85 (mK_obj hm) ?_
        rw [hSi.2.2.2.2.2.2.2.2.1]
        refine v_if_eq (tgt := 92) dX4_readsWay_88 (by decide) (fun b88 => ?_) (fun b88 => ?_)
        · skip
          have hw3 := hSi.2.2.2.2.2.2.2.2.2.2
          rw [show (0 : Int32) = nI 0 from rfl, nI_eq (by omega) (by decide)] at b88
          have hq0 : ry_9 T n m nm s = pd_ T n 14 (we_9 T n (pn_ T n (w3_9 T n nm s m))) := by unfold ry_9; rw [cf_f hm7, cf_f (fun z => z b88)]
          have hs33 := w3_sm (T := T) (n := n) (nm := nm) (s := s) (i := m) b88
          have hn33 := hSi.2.2.2.2.2.2.2.1 hs33
          refine v_aload_n dX4_readsWay_92 rfl rfl ?_
          refine v_getR fX4_66 dX4_readsWay_93 (mK_obj hm) (mR_nameOf hm) ?_ fcA_J
          refine v_aload_n dX4_readsWay_96 rfl rfl ?_
          refine v_getI fX4_273 dX4_readsWay_97 (mK_obj hm) ?_
          rw [hI23]
          refine v_aload_n dX4_readsWay_100 rfl rfl ?_
          refine v_getL fX4_235 dX4_readsWay_101 (mK_obj hm) ?_
          rw [hn33]
          refine v_last dX4_readsWay_104 (mK_nameOf hm) rfl (by first | assumption | omega) ?_
          have hSb : RS_ T n (up_L hi 258 m (nw_9 T n (w3_9 T n nm s m).1)) (w3_9 T n nm s m) := RS_L hSi (by decide)
          have hm : MI (up_L hi 258 m (nw_9 T n (w3_9 T n nm s m).1)) := hSb.1
          refine v_aload_n dX4_readsWay_105 rfl rfl ?_
          refine v_zV mtX4_next q1932 q1934 qs74 rfl (by decide) dX4_readsWay_106 (c_X4_nextS hG hSb) (mK_obj hm) (by decide) (fun r106 h106 q106 z106 => ?_)
          obtain ⟨rfl, hS106, hf106⟩ := q106
          have hm : MI h106 := hS106.1
          refine v_iconst (v := 0) dX4_readsWay_109 (by decide) ?_
          refine v_istore_n dX4_readsWay_110 rfl (by decide) ?_
          refine v_loc2 (by repeat' (first | with_reducible exact lsub_n | with_reducible refine lsub_c ?_ ?_ | with_reducible refine lk_hit ?_ | with_reducible refine lk_miss (by decide) ?_ ?_ | exact rfl)) (v_lp2 (fun (j : Nat) (hj9 : AH) => 9 - j) (fun (j : Nat) (hj9 : AH) => j ≤ 9 ∧ RS_ T n hj9 (wx_ T n (pn_ T n (w3_9 T n nm s m)) j) ∧ wf_9 m h hj9 ∧ hp_I hj9 241 23 = nI m ∧ hp_L hj9 258 m = nw_9 T n (w3_9 T n nm s m).1 ∧ re_ (fun j => cs_9 T n (wl_ T n (pn_ T n (w3_9 T n nm s m)) j)) 8 (min j 8) = wc_9 T n (pn_ T n (w3_9 T n nm s m)) ∧ (j = 9 → cs_9 T n (wl_ T n (pn_ T n (w3_9 T n nm s m)) 8)) ∧ ((wx_ T n (pn_ T n (w3_9 T n nm s m)) j).2.1 = 0 → ∀ q, q < j → hp_I hj9 255 (8 * (m + 8) + q) = nI (tk9_ T n (wl_ T n (pn_ T n (w3_9 T n nm s m)) q).1) ∧ hp_I hj9 256 (8 * (m + 8) + q) = nI (sd_9 T n (wl_ T n (pn_ T n (w3_9 T n nm s m)) q)) ∧ hp_I hj9 257 (8 * (m + 8) + q) = nI (mn_9 T n (wl_ T n (pn_ T n (w3_9 T n nm s m)) q)))) (fun (j : Nat) (hj9 : AH) => [(0, .ref 241), (1, .int (nI j))]) (fun (j : Nat) (hj9 : AH) => hj9) ?_ 0 _ ⟨Nat.zero_le _, by unfold wx_; rw [cf_t (Nat.zero_le 8)]; exact hS106, wf_tr (wf_L (wf_rd hfi)) (wf_rd hf106), by rw [hf106.2.2.2.2.1 23 (by omega)]; exact hI23, by rw [hf106.2.2.2.2.2 258 (by decide), hp_L_L, if_pos ⟨rfl, rfl⟩], rfl, fun z => absurd z (by decide), fun _ q hq => absurd hq (Nat.not_lt_zero q)⟩)
          intro j hj9 hJ IHj
          obtain ⟨hJ1, hSj, hfj, hJ23, hJL, hJre, hJ9, hJrow⟩ := hJ
          have hm : MI hj9 := hSj.1
          have htl := tk_le T n (wx_ T n (pn_ T n (w3_9 T n nm s m)) j).1
          refine v_aload_n dX4_readsWay_111 rfl rfl ?_
          refine v_getI fX4_252 dX4_readsWay_112 (mK_obj hm) ?_
          rw [hSj.2.2.2.2.2.2.2.2.1]
          refine v_if_ne (tgt := 166) dX4_readsWay_115 (by decide) (fun b115 => ?_) (fun b115 => ?_)
          · skip
            have hncs : ¬ cs_9 T n (wx_ T n (pn_ T n (w3_9 T n nm s m)) j) := fun z => b115 (by rw [z.1]; rfl)
            refine v_aload_n dX4_readsWay_166 rfl rfl ?_
            refine v_bipush (v := nI 14) dX4_readsWay_167 (by decide) ?_
            refine v_zV mtX4_needs q1980 q1982 qs83 rfl (by decide) dX4_readsWay_169 (c_X4_needs (k := 14) hG hSj (by decide)) (mK_obj hm) (by decide) (fun r169 h169 q169 z169 => ?_)
            obtain ⟨rfl, hS169, hf169⟩ := q169
            have hm : MI h169 := hS169.1
            obtain ⟨hwe, hwc⟩ := wx_end hJ1 hJre hJ9 hncs
            have hE23 : hp_I h169 241 23 = nI m := by rw [hf169.2.2.2.2.1 23 (by omega)]; exact hJ23
            have hE23b : hp_I (up_I h169 254 (8 + m) (nI j)) 241 23 = nI m := hE23
            refine v_aload_n dX4_readsWay_172 rfl rfl ?_
            refine v_getR fX4_54 dX4_readsWay_173 (mK_obj hm) (mR_steps hm) ?_ fcA_I
            refine v_bipush (v := nI 8) dX4_readsWay_176 (by decide) ?_
            refine v_aload_n dX4_readsWay_178 rfl rfl ?_
            refine v_getI fX4_273 dX4_readsWay_179 (mK_obj hm) ?_
            rw [hE23]
            refine v_iadd dX4_readsWay_182 ?_
            refine v_iload_n dX4_readsWay_183 rfl rfl ?_
            refine v_iast dX4_readsWay_184 (mK_steps hm) (ix_add rfl rfl) (by first | assumption | omega) ?_
            refine v_aload_n dX4_readsWay_185 rfl rfl ?_
            refine v_dup dX4_readsWay_186 rfl ?_
            refine v_getI fX4_273 dX4_readsWay_187 (mK_obj hm) ?_
            rw [hE23b]
            refine v_iconst (v := 1) dX4_readsWay_190 (by decide) ?_
            refine v_iadd dX4_readsWay_191 ?_
            rw [nI_1]
            refine v_putI fX4_273 (.inl rfl) dX4_readsWay_192 (mK_obj hm) ?_
            refine v_retv dX4_readsWay_195 trivial ⟨rfl, by rw [hq0, hwe]; exact RS_23 (RS_A hS169 (by decide) (by decide)) (by decide), wf_f (wf_S (wf_tr hfj (wf_rd hf169))), fun hz => ?_⟩
            rw [hq0] at hz
            have hw9 := pd_0 hz
            rw [hwe] at hw9
            have hj8 : j ≤ 8 := Classical.byContradiction fun y => by unfold wx_ at hw9; rw [cf_f y] at hw9; exact pf_ne (by decide) hw9
            have hc9 := hwc hj8
            rw [hc9]
            refine ⟨by omega, by rw [hp_I_I, if_pos ⟨rfl, rfl⟩], by show hp_L h169 258 m = _; rw [hf169.2.2.2.2.2 258 (by decide)]; exact hJL, by rw [II_n (by decide), hp_I_I, if_pos ⟨rfl, rfl⟩], fun q hq9 => ?_⟩
            have h9 := hJrow hw9 q hq9
            rw [II_n (by decide), II_n (by decide), II_n (by decide), II_n (by decide), II_n (by decide), II_n (by decide), hf169.2.2.2.1 255 (by decide), hf169.2.2.2.1 256 (by decide), hf169.2.2.2.1 257 (by decide)]
            exact h9
          · skip
            have hwj := hSj.2.2.2.2.2.2.2.2.2.2
            rw [show (0 : Int32) = nI 0 from rfl, nI_eq (by omega) (by decide)] at b115
            refine v_aload_n dX4_readsWay_118 rfl rfl ?_
            refine v_getI fX4_229 dX4_readsWay_119 (mK_obj hm) ?_
            rw [hSj.2.2.2.2.2.1]
            refine v_i2l dX4_readsWay_122 ?_
            refine v_lconst (v := (0 : Int32).toInt64) dX4_readsWay_123 (by decide) ?_
            refine v_ldc2 (v := (7 : Int32).toInt64) q1967 dX4_readsWay_124 (by decide) ?_
            refine v_pS mtX4_within q1790 q1791 dX4_readsWay_127 (c_X4_within _ _ _) (by decide) ?_
            refine v_if_eq (tgt := 166) dX4_readsWay_130 (by decide) (fun b130 => ?_) (fun b130 => ?_)
            · skip
              rw [b2i_0] at b130
              have hncs : ¬ cs_9 T n (wx_ T n (pn_ T n (w3_9 T n nm s m)) j) := fun z => b130 ⟨Int32.not_lt.mp (nI_pos (by omega)), (nI_leI (by omega) (by decide)).mpr z.2⟩
              refine v_aload_n dX4_readsWay_166 rfl rfl ?_
              refine v_bipush (v := nI 14) dX4_readsWay_167 (by decide) ?_
              refine v_zV mtX4_needs q1980 q1982 qs83 rfl (by decide) dX4_readsWay_169 (c_X4_needs (k := 14) hG hSj (by decide)) (mK_obj hm) (by decide) (fun r169 h169 q169 z169 => ?_)
              obtain ⟨rfl, hS169, hf169⟩ := q169
              have hm : MI h169 := hS169.1
              obtain ⟨hwe, hwc⟩ := wx_end hJ1 hJre hJ9 hncs
              have hE23 : hp_I h169 241 23 = nI m := by rw [hf169.2.2.2.2.1 23 (by omega)]; exact hJ23
              have hE23b : hp_I (up_I h169 254 (8 + m) (nI j)) 241 23 = nI m := hE23
              refine v_aload_n dX4_readsWay_172 rfl rfl ?_
              refine v_getR fX4_54 dX4_readsWay_173 (mK_obj hm) (mR_steps hm) ?_ fcA_I
              refine v_bipush (v := nI 8) dX4_readsWay_176 (by decide) ?_
              refine v_aload_n dX4_readsWay_178 rfl rfl ?_
              refine v_getI fX4_273 dX4_readsWay_179 (mK_obj hm) ?_
              rw [hE23]
              refine v_iadd dX4_readsWay_182 ?_
              refine v_iload_n dX4_readsWay_183 rfl rfl ?_
              refine v_iast dX4_readsWay_184 (mK_steps hm) (ix_add rfl rfl) (by first | assumption | omega) ?_
              refine v_aload_n dX4_readsWay_185 rfl rfl ?_
              refine v_dup dX4_readsWay_186 rfl ?_
              refine v_getI fX4_273 dX4_readsWay_187 (mK_obj hm) ?_
              rw [hE23b]
              refine v_iconst (v := 1) dX4_readsWay_190 (by decide) ?_
              refine v_iadd dX4_readsWay_191 ?_
              rw [nI_1]
              refine v_putI fX4_273 (.inl rfl) dX4_readsWay_192 (mK_obj hm) ?_
              refine v_retv dX4_readsWay_195 trivial ⟨rfl, by rw [hq0, hwe]; exact RS_23 (RS_A hS169 (by decide) (by decide)) (by decide), wf_f (wf_S (wf_tr hfj (wf_rd hf169))), fun hz => ?_⟩
              rw [hq0] at hz
              have hw9 := pd_0 hz
              rw [hwe] at hw9
              have hj8 : j ≤ 8 := Classical.byContradiction fun y => by unfold wx_ at hw9; rw [cf_f y] at hw9; exact pf_ne (by decide) hw9
              have hc9 := hwc hj8
              rw [hc9]
              refine ⟨by omega, by rw [hp_I_I, if_pos ⟨rfl, rfl⟩], by show hp_L h169 258 m = _; rw [hf169.2.2.2.2.2 258 (by decide)]; exact hJL, by rw [II_n (by decide), hp_I_I, if_pos ⟨rfl, rfl⟩], fun q hq9 => ?_⟩
              have h9 := hJrow hw9 q hq9
              rw [II_n (by decide), II_n (by decide), II_n (by decide), II_n (by decide), II_n (by decide), II_n (by decide), hf169.2.2.2.1 255 (by decide), hf169.2.2.2.1 256 (by decide), hf169.2.2.2.1 257 (by decide)]
              exact h9
            · skip
              rw [b2i_n0] at b130
              have hcs : cs_9 T n (wx_ T n (pn_ T n (w3_9 T n nm s m)) j) := ⟨b115, (nI_leI (by omega) (by decide)).mp b130.2⟩
              have hj8 : j ≤ 8 := Classical.byContradiction fun z => by have := hcs.1; unfold wx_ at this; rw [cf_f z] at this; exact pf_ne (by decide) this
              have hwx : wx_ T n (pn_ T n (w3_9 T n nm s m)) j = wl_ T n (pn_ T n (w3_9 T n nm s m)) j := cf_t hj8
              refine v_iload_n dX4_readsWay_133 rfl rfl ?_
              refine v_bipush (v := nI 8) dX4_readsWay_134 (by decide) ?_
              refine v_icmp_ne (tgt := 144) dX4_readsWay_136 (by decide) (fun b136 => ?_) (fun b136 => ?_)
              · skip
                have hj7 : j < 8 := by have : ¬ j = 8 := fun z => b136 (by rw [z]); omega
                have hwn : wx_ T n (pn_ T n (w3_9 T n nm s m)) (j + 1) = st_9 T n (wx_ T n (pn_ T n (w3_9 T n nm s m)) j) := by rw [hwx]; exact cf_t (by omega)
                refine v_aload_n dX4_readsWay_144 rfl rfl ?_
                refine v_getI fX4_252 dX4_readsWay_145 (mK_obj hm) ?_
                first | rw [hSj.2.2.2.2.2.2.2.2.1] | rw [hS141.2.2.2.2.2.2.2.2.1]
                refine v_if_ne (tgt := 160) dX4_readsWay_148 (by decide) (fun b148 => ?_) (fun b148 => ?_)
                · skip
                  exact absurd (by rw [b115]; rfl) b148
                · skip
                  refine v_aload_n dX4_readsWay_151 rfl rfl ?_
                  refine v_aload_n dX4_readsWay_152 rfl rfl ?_
                  refine v_getI fX4_273 dX4_readsWay_153 (mK_obj hm) ?_
                  rw [hJ23]
                  refine v_iload_n dX4_readsWay_156 rfl rfl ?_
                  refine v_zV mtX4_readsStep q1968 q1970 qs80 rfl (by decide) dX4_readsWay_157 (c_X4_readsStep (w := m) (j := j) hG hSj (by omega) hj7) (mK_obj hm) (by decide) (fun r157 h157 q157 z157 => ?_)
                  obtain ⟨rfl, hS157, hf157, hk5, hk6, hk7⟩ := q157
                  have hm : MI h157 := hS157.1
                  have hre9 : re_ (fun j => cs_9 T n (wl_ T n (pn_ T n (w3_9 T n nm s m)) j)) 8 (min (j + 1) 8) = wc_9 T n (pn_ T n (w3_9 T n nm s m)) := by
                   rw [Nat.min_eq_left (by omega)] at hJre ⊢
                   rw [← re_t (Q := fun j => cs_9 T n (wl_ T n (pn_ T n (w3_9 T n nm s m)) j)) (by rw [hwx] at hcs; exact hcs) hj7]; exact hJre
                  have hrow9 : (wx_ T n (pn_ T n (w3_9 T n nm s m)) (j + 1)).2.1 = 0 → ∀ q, q < j + 1 → hp_I h157 255 (8 * (m + 8) + q) = nI (tk9_ T n (wl_ T n (pn_ T n (w3_9 T n nm s m)) q).1) ∧ hp_I h157 256 (8 * (m + 8) + q) = nI (sd_9 T n (wl_ T n (pn_ T n (w3_9 T n nm s m)) q)) ∧ hp_I h157 257 (8 * (m + 8) + q) = nI (mn_9 T n (wl_ T n (pn_ T n (w3_9 T n nm s m)) q)) := fun hw q hq => by
                   rw [hwx] at hk5 hk6 hk7
                   rcases Nat.lt_succ_iff_lt_or_eq.mp hq with u | u
                   · have h9 := hJrow hcs.1 q u
                     exact ⟨by rw [hf157.2.2.2.2.1 255 (by decide) (by decide) _ (by omega)]; exact h9.1, by rw [hf157.2.2.2.2.1 256 (by decide) (by decide) _ (by omega)]; exact h9.2.1, by rw [hf157.2.2.2.2.1 257 (by decide) (by decide) _ (by omega)]; exact h9.2.2⟩
                   · subst u; exact ⟨hk5, hk6, hk7 (by rw [← hwx, ← hwn]; exact hw)⟩
                  refine v_iinc dX4_readsWay_160 rfl (by first | with_reducible exact nI_inc _ | exact rfl) (by decide) ?_
                  refine v_goto (tgt := 111) dX4_readsWay_163 (by decide) ?_
                  first | exact v_loc2 (by repeat' (first | with_reducible exact lsub_n | with_reducible refine lsub_c ?_ ?_ | with_reducible refine lk_hit ?_ | with_reducible refine lk_miss (by decide) ?_ ?_ | exact rfl)) (IHj (j + 1) _ ⟨by omega, by rw [hwn]; exact hS157, wf_tr hfj (wf_sf hj7 hf157), by rw [hf157.2.2.2.2.2.1 23 (by omega)]; exact hJ23, by rw [hf157.2.2.2.2.2.2 258 (by decide)]; exact hJL, hre9, fun z => by omega, hrow9⟩ (by omega)) | exact v_loc2 (by repeat' (first | with_reducible exact lsub_n | with_reducible refine lsub_c ?_ ?_ | with_reducible refine lk_hit ?_ | with_reducible refine lk_miss (by decide) ?_ ?_ | exact rfl)) (IHj (j + 1) _ ⟨by omega, by rw [hwn]; exact hS141, wf_tr hfj (wf_rd hf141), by rw [hf141.2.2.2.2.1 23 (by omega)]; exact hJ23, by rw [hf141.2.2.2.2.2 258 (by decide)]; exact hJL, by rw [hje]; rw [hje] at hJre; exact hJre, fun _ => by rw [← hje]; rw [hwx] at hcs; exact hcs, fun hw => absurd hw (by rw [hwn]; exact pf_ne (by decide))⟩ (by omega))
              · skip
                have hje : j = 8 := (nI_eq (by omega) (by decide)).mp b136
                have hwn : wx_ T n (pn_ T n (w3_9 T n nm s m)) (j + 1) = pf_ T n 5 (wx_ T n (pn_ T n (w3_9 T n nm s m)) j) := by rw [hwx, hje]; exact cf_f (by decide)
                refine v_aload_n dX4_readsWay_139 rfl rfl ?_
                refine v_iconst (v := nI 5) dX4_readsWay_140 (by decide) ?_
                refine v_zV mtX4_fails q1963 q1965 qs79 rfl (by decide) dX4_readsWay_141 (c_X4_fails (f := 5) hSj (by decide)) (mK_obj hm) (by decide) (fun r141 h141 q141 z141 => ?_)
                obtain ⟨rfl, hS141, hf141⟩ := q141
                have hm : MI h141 := hS141.1
                refine v_aload_n dX4_readsWay_144 rfl rfl ?_
                refine v_getI fX4_252 dX4_readsWay_145 (mK_obj hm) ?_
                first | rw [hSj.2.2.2.2.2.2.2.2.1] | rw [hS141.2.2.2.2.2.2.2.2.1]
                refine v_if_ne (tgt := 160) dX4_readsWay_148 (by decide) (fun b148 => ?_) (fun b148 => ?_)
                · skip
                  refine v_iinc dX4_readsWay_160 rfl (by first | with_reducible exact nI_inc _ | exact rfl) (by decide) ?_
                  refine v_goto (tgt := 111) dX4_readsWay_163 (by decide) ?_
                  first | exact v_loc2 (by repeat' (first | with_reducible exact lsub_n | with_reducible refine lsub_c ?_ ?_ | with_reducible refine lk_hit ?_ | with_reducible refine lk_miss (by decide) ?_ ?_ | exact rfl)) (IHj (j + 1) _ ⟨by omega, by rw [hwn]; exact hS157, wf_tr hfj (wf_sf hj7 hf157), by rw [hf157.2.2.2.2.2.1 23 (by omega)]; exact hJ23, by rw [hf157.2.2.2.2.2.2 258 (by decide)]; exact hJL, hre9, fun z => by omega, hrow9⟩ (by omega)) | exact v_loc2 (by repeat' (first | with_reducible exact lsub_n | with_reducible refine lsub_c ?_ ?_ | with_reducible refine lk_hit ?_ | with_reducible refine lk_miss (by decide) ?_ ?_ | exact rfl)) (IHj (j + 1) _ ⟨by omega, by rw [hwn]; exact hS141, wf_tr hfj (wf_rd hf141), by rw [hf141.2.2.2.2.1 23 (by omega)]; exact hJ23, by rw [hf141.2.2.2.2.2 258 (by decide)]; exact hJL, by rw [hje]; rw [hje] at hJre; exact hJre, fun _ => by rw [← hje]; rw [hwx] at hcs; exact hcs, fun hw => absurd hw (by rw [hwn]; exact pf_ne (by decide))⟩ (by omega))
                · skip
                  exact absurd ((nI_eq (by have := hS141.2.2.2.2.2.2.2.2.2.2; omega) (by decide)).mp (show nI _ = nI 0 from b148)) (pf_ne (by decide))
        · skip
          have hz3 : ¬ (w3_9 T n nm s m).2.1 = 0 := fun z => b88 (by rw [z]; rfl)
          have hq : ry_9 T n m nm s = w3_9 T n nm s m := by unfold ry_9; rw [cf_f hm7, cf_t hz3]
          exact v_retv dX4_readsWay_91 trivial ⟨rfl, by rw [hq]; exact hSi, wf_rd hfi, fun z => absurd z (by rw [hq]; exact hz3)⟩
      · skip
        rw [nI_leI (by omega) (by omega)] at b47
        have hk : i < m := by omega
        refine v_aload_n dX4_readsWay_50 rfl rfl ?_
        refine v_bipush (v := nI 12) dX4_readsWay_51 (by decide) ?_
        refine v_pV mtX4_is q1955 q1957 qs77 rfl (by decide) dX4_readsWay_53 (c_X4_is (k := 12) hSi (by decide)) (mK_obj hm) (by decide) ?_
        refine v_if_eq (tgt := 78) dX4_readsWay_56 (by decide) (fun b56 => ?_) (fun b56 => ?_)
        · skip
          rw [b2c_0] at b56
          have hnx : w3_9 T n nm s (i + 1) = w3_9 T n nm s i := w3_no b56
          refine v_iinc dX4_readsWay_78 rfl (by first | with_reducible exact nI_inc _ | exact rfl) (by decide) ?_
          refine v_goto (tgt := 42) dX4_readsWay_81 (by decide) ?_
          first | refine v_loc2 (by repeat' (first | with_reducible exact lsub_n | with_reducible refine lsub_c ?_ ?_ | with_reducible refine lk_hit ?_ | with_reducible refine lk_miss (by decide) ?_ ?_ | exact rfl)) (IHi (i + 1) _ ⟨by omega, by rw [hnx]; exact hSi, hfi⟩ (by omega)) | refine v_loc2 (by repeat' (first | with_reducible exact lsub_n | with_reducible refine lsub_c ?_ ?_ | with_reducible refine lk_hit ?_ | with_reducible refine lk_miss (by decide) ?_ ?_ | exact rfl)) (IHi (i + 1) _ ⟨by omega, by rw [hnx]; exact hS75, rd_tr hfi hf75⟩ (by omega))
        · skip
          rw [b2c_n0] at b56
          obtain ⟨he3, hp12⟩ := w3_yes b56
          have hn33 := hSi.2.2.2.2.2.2.2.1 (tk_sm b56.2)
          refine v_aload_n dX4_readsWay_59 rfl rfl ?_
          refine v_getR fX4_66 dX4_readsWay_60 (mK_obj hm) (mR_nameOf hm) ?_ fcA_J
          refine v_iload_n dX4_readsWay_63 rfl rfl ?_
          refine v_lald dX4_readsWay_64 (mK_nameOf hm) rfl (by first | assumption | omega) ?_
          rw [hInm i hk]
          refine v_aload_n dX4_readsWay_65 rfl rfl ?_
          refine v_getL fX4_235 dX4_readsWay_66 (mK_obj hm) ?_
          rw [hn33]
          refine v_lcmp dX4_readsWay_69 ?_
          refine v_if_ne (tgt := 78) dX4_readsWay_70 (by decide) (fun b70 => ?_) (fun b70 => ?_)
          · skip
            rw [lg_eq] at b70
            have hnx : w3_9 T n nm s (i + 1) = w3_9 T n nm s i := by rw [he3] at b70; exact w3_ne he3 b70
            refine v_iinc dX4_readsWay_78 rfl (by first | with_reducible exact nI_inc _ | exact rfl) (by decide) ?_
            refine v_goto (tgt := 42) dX4_readsWay_81 (by decide) ?_
            first | refine v_loc2 (by repeat' (first | with_reducible exact lsub_n | with_reducible refine lsub_c ?_ ?_ | with_reducible refine lk_hit ?_ | with_reducible refine lk_miss (by decide) ?_ ?_ | exact rfl)) (IHi (i + 1) _ ⟨by omega, by rw [hnx]; exact hSi, hfi⟩ (by omega)) | refine v_loc2 (by repeat' (first | with_reducible exact lsub_n | with_reducible refine lsub_c ?_ ?_ | with_reducible refine lk_hit ?_ | with_reducible refine lk_miss (by decide) ?_ ?_ | exact rfl)) (IHi (i + 1) _ ⟨by omega, by rw [hnx]; exact hS75, rd_tr hfi hf75⟩ (by omega))
          · skip
            have b70 := lg_eq.mp b70
            have hnx : w3_9 T n nm s (i + 1) = pf_ T n 4 (w3_9 T n nm s i) := by rw [he3] at b70 ⊢; exact w3_eq hp12 b70
            refine v_aload_n dX4_readsWay_73 rfl rfl ?_
            refine v_iconst (v := nI 4) dX4_readsWay_74 (by decide) ?_
            refine v_zV mtX4_fails q1963 q1965 qs79 rfl (by decide) dX4_readsWay_75 (c_X4_fails (f := 4) hSi (by decide)) (mK_obj hm) (by decide) (fun r75 h75 q75 z75 => ?_)
            obtain ⟨rfl, hS75, hf75⟩ := q75
            have hm : MI h75 := hS75.1
            refine v_iinc dX4_readsWay_78 rfl (by first | with_reducible exact nI_inc _ | exact rfl) (by decide) ?_
            refine v_goto (tgt := 42) dX4_readsWay_81 (by decide) ?_
            first | refine v_loc2 (by repeat' (first | with_reducible exact lsub_n | with_reducible refine lsub_c ?_ ?_ | with_reducible refine lk_hit ?_ | with_reducible refine lk_miss (by decide) ?_ ?_ | exact rfl)) (IHi (i + 1) _ ⟨by omega, by rw [hnx]; exact hSi, hfi⟩ (by omega)) | refine v_loc2 (by repeat' (first | with_reducible exact lsub_n | with_reducible refine lsub_c ?_ ?_ | with_reducible refine lk_hit ?_ | with_reducible refine lk_miss (by decide) ?_ ?_ | exact rfl)) (IHi (i + 1) _ ⟨by omega, by rw [hnx]; exact hS75, rd_tr hfi hf75⟩ (by omega))
    · skip
      refine v_aload_n dX4_readsWay_26 rfl rfl ?_
      refine v_bipush (v := nI 12) dX4_readsWay_27 (by decide) ?_
      refine v_pV mtX4_is q1955 q1957 qs77 rfl (by decide) dX4_readsWay_29 (c_X4_is (k := 12) hS23 (by decide)) (mK_obj hm) (by decide) ?_
      refine v_if_ne (tgt := 40) dX4_readsWay_32 (by decide) (fun b32 => ?_) (fun b32 => ?_)
      · skip
        first | exact hc40 _ ⟨by unfold w2_9; rw [cf_t (b2c_n0.mp b32)]; exact hS23, hf23⟩ | exact hc40 _ ⟨by unfold w2_9; rw [cf_f (b2c_0.mp b32)]; exact hS37, rd_tr hf23 hf37⟩
      · skip
        refine v_aload_n dX4_readsWay_35 rfl rfl ?_
        refine v_iconst (v := nI 2) dX4_readsWay_36 (by decide) ?_
        refine v_zV mtX4_fails q1963 q1965 qs79 rfl (by decide) dX4_readsWay_37 (c_X4_fails (f := 2) hS23 (by decide)) (mK_obj hm) (by decide) (fun r37 h37 q37 z37 => ?_)
        obtain ⟨rfl, hS37, hf37⟩ := q37
        have hm : MI h37 := hS37.1
        first | exact hc40 _ ⟨by unfold w2_9; rw [cf_t (b2c_n0.mp b32)]; exact hS23, hf23⟩ | exact hc40 _ ⟨by unfold w2_9; rw [cf_f (b2c_0.mp b32)]; exact hS37, rd_tr hf23 hf37⟩
  · skip
    refine v_aload_n dX4_readsWay_0 rfl rfl ?_
    refine v_getI fX4_273 dX4_readsWay_1 (mK_obj hm) ?_
    rw [hN23]
    refine v_bipush (v := nI 8) dX4_readsWay_4 (by decide) ?_
    refine v_icmp_ne (tgt := 14) dX4_readsWay_6 (by decide) (fun b6 => ?_) (fun b6 => ?_)
    · skip
      have hm7 : ¬ m = 8 := fun z => b6 (by rw [z])
      refine v_aload_n dX4_readsWay_14 rfl rfl ?_
      refine v_getI fX4_252 dX4_readsWay_15 (mK_obj hm) ?_
      first | rw [hr31] | rw [hS11.2.2.2.2.2.2.2.2.1]
      refine v_if_eq (tgt := 22) dX4_readsWay_18 (by decide) (fun b18 => ?_) (fun b18 => ?_)
      · skip
        first | exact hc22 _ ⟨rfl, hm7⟩ | exact absurd b18 (fun z => pf_ne (T := T) (n := n) (f := 5) (s := s) (by decide) (by rw [show (0 : Int32) = nI 0 from rfl, nI_eq (by have := hS11.2.2.2.2.2.2.2.2.2.2; omega) (by decide)] at z; exact z))
      · skip
        first | exact absurd (by rw [hw0]; rfl) b18 | exact v_retv dX4_readsWay_21 trivial ⟨rfl, by rw [hq]; exact hS11, wf_rd hf11, fun z => absurd z (by rw [hq]; exact pf_ne (by decide))⟩
    · skip
      have hm8e : m = 8 := (nI_eq (by omega) (by decide)).mp b6
      have hq : ry_9 T n m nm s = pf_ T n 5 s := cf_t hm8e
      refine v_aload_n dX4_readsWay_9 rfl rfl ?_
      refine v_iconst (v := nI 5) dX4_readsWay_10 (by decide) ?_
      refine v_zV mtX4_fails q1963 q1965 qs79 rfl (by decide) dX4_readsWay_11 (c_X4_fails (f := 5) hS0 (by decide)) (mK_obj hm) (by decide) (fun r11 h11 q11 z11 => ?_)
      obtain ⟨rfl, hS11, hf11⟩ := q11
      have hm : MI h11 := hS11.1
      refine v_aload_n dX4_readsWay_14 rfl rfl ?_
      refine v_getI fX4_252 dX4_readsWay_15 (mK_obj hm) ?_
      first | rw [hr31] | rw [hS11.2.2.2.2.2.2.2.2.1]
      refine v_if_eq (tgt := 22) dX4_readsWay_18 (by decide) (fun b18 => ?_) (fun b18 => ?_)
      · skip
        first | exact hc22 _ ⟨rfl, hm7⟩ | exact absurd b18 (fun z => pf_ne (T := T) (n := n) (f := 5) (s := s) (by decide) (by rw [show (0 : Int32) = nI 0 from rfl, nI_eq (by have := hS11.2.2.2.2.2.2.2.2.2.2; omega) (by decide)] at z; exact z))
      · skip
        first | exact absurd (by rw [hw0]; rfl) b18 | exact v_retv dX4_readsWay_21 trivial ⟨rfl, by rw [hq]; exact hS11, wf_rd hf11, fun z => absurd z (by rw [hq]; exact pf_ne (by decide))⟩

