set_option maxRecDepth 100000
/-- the tape, well made -/
def TA_ (h : AH) (nT : Nat) : Prop := hp_I h 241 14 = nI nT ∧ nT ≤ 400 ∧ ∀ k, k < nT → ∃ b, b < 2 ^ 8 ∧ hp_I h 253 k = nI b
def tpe_ (h : AH) (k : Nat) : Nat := (hp_I h 253 k).toNatClampNeg
/-- what lasts behind the reading -/
def tz_ (h h' : AH) : Prop := hp_n h' = hp_n h ∧ hp_K h' = hp_K h ∧ hp_R h' = hp_R h ∧ (∀ p, p ≠ 241 → p ≠ 242 → p < 254 ∨ 257 < p → hp_I h' p = hp_I h p) ∧ (∀ f, (0 < f ∧ f < 14) ∨ (17 < f ∧ f < 23) ∨ 35 < f → hp_I h' 241 f = hp_I h 241 f) ∧ hp_I h' 241 14 = 0 ∧ hp_I h' 241 0 = 0 ∧ (∀ p, p ≠ 241 → p ≠ 258 → hp_L h' p = hp_L h p)
theorem tz_tb {h h1 : AH} (a : tb_ h h1) : tz_ h h1 := ⟨a.1, a.2.1, a.2.2.1, fun p h1 _ h3 => a.2.2.2.1 p h1 h3, fun f hf => a.2.2.2.2.2.2.1 f (by omega), a.2.2.2.2.2.2.2.1, a.2.2.2.2.2.2.2.2.1, a.2.2.2.2.2.2.2.2.2⟩
theorem tz_f {h h1 : AH} {f : Nat} {v : Int32} (a : tz_ h h1) (hf : (14 < f ∧ f ≤ 17) ∨ (22 < f ∧ f ≤ 35)) : tz_ h (up_I h1 241 f v) := ⟨a.1, a.2.1, a.2.2.1, fun p h1 h2 h3 => by rw [II_n h1]; exact a.2.2.2.1 p h1 h2 h3, fun g hg => by rw [hp_I_I, if_neg (by omega)]; exact a.2.2.2.2.1 g hg, by rw [hp_I_I, if_neg (by omega)]; exact a.2.2.2.2.2.1, by rw [hp_I_I, if_neg (by omega)]; exact a.2.2.2.2.2.2.1, a.2.2.2.2.2.2.2⟩
theorem tz_A {h h1 : AH} {p k : Nat} {v : Int32} (a : tz_ h h1) (hp : p = 242 ∨ (254 ≤ p ∧ p ≤ 257)) : tz_ h (up_I h1 p k v) := ⟨a.1, a.2.1, a.2.2.1, fun q h1 h2 h3 => by rw [II_n (by omega)]; exact a.2.2.2.1 q h1 h2 h3, fun g hg => by rw [II_n (by omega)]; exact a.2.2.2.2.1 g hg, by rw [II_n (by omega)]; exact a.2.2.2.2.2.1, by rw [II_n (by omega)]; exact a.2.2.2.2.2.2.1, a.2.2.2.2.2.2.2⟩
/-- what text answers, and what it leaves: the fault, or the ways -/
def XT_ (h : AH) (n : Nat) (r : Option Value) (h1 : AH) : Prop := tz_ h h1 ∧ hp_I h1 241 34 = nI (fin_ (tpe_ h) n).1.2.1 ∧
  ((¬ (fin_ (tpe_ h) n).1.2.1 = 0 ∧ r = some (.int (-1)) ∧ hp_I h1 241 35 = nI (fin_ (tpe_ h) n).1.2.2 ∧ (∀ q, hp_I h1 242 q = if q = 4 then hp_I h 242 q + 1 else hp_I h 242 q) ∧ (∀ f, 15 ≤ f → f ≤ 17 → hp_I h1 241 f = hp_I h 241 f) ∧ (∀ p, 255 ≤ p → p ≤ 257 → ∀ q, q < 64 → hp_I h1 p q = hp_I h p q) ∧ ∀ q, q < 8 → hp_I h1 254 q = hp_I h 254 q) ∨
   ((fin_ (tpe_ h) n).1.2.1 = 0 ∧ r = some (.int (nI (fin_ (tpe_ h) n).2.1)) ∧ (fin_ (tpe_ h) n).2.1 ≤ 8 ∧ hp_I h1 241 35 = -1 ∧ hp_I h1 242 = hp_I h 242 ∧ hp_I h1 241 15 = nI (fin_ (tpe_ h) n).2.1 ∧ hp_I h1 241 16 = nI (fin_ (tpe_ h) n).2.2.1 ∧ (fin_ (tpe_ h) n).2.2.1 ≤ 20 ∧ hp_I h1 241 17 = nI (fin_ (tpe_ h) n).2.2.2.1 ∧ (fin_ (tpe_ h) n).2.2.2.1 ≤ 20 ∧
     ∀ i, i < (fin_ (tpe_ h) n).2.1 → hp_I h1 254 i = nI (wc_9 (tpe_ h) n ((fin_ (tpe_ h) n).2.2.2.2.1 i)) ∧ ∀ q, q < wc_9 (tpe_ h) n ((fin_ (tpe_ h) n).2.2.2.2.1 i) → hp_I h1 255 (8 * i + q) = nI (tk9_ (tpe_ h) n (wl_ (tpe_ h) n ((fin_ (tpe_ h) n).2.2.2.2.1 i) q).1) ∧ hp_I h1 256 (8 * i + q) = nI (sd_9 (tpe_ h) n (wl_ (tpe_ h) n ((fin_ (tpe_ h) n).2.2.2.2.1 i) q)) ∧ hp_I h1 257 (8 * i + q) = nI (mn_9 (tpe_ h) n (wl_ (tpe_ h) n ((fin_ (tpe_ h) n).2.2.2.2.1 i) q))))
theorem pr_0z {T : Nat → Nat} {n lo hi : Nat} {s : Nat × Nat × Nat} (h : (pr_9 T n lo hi s).2.1 = 0) : s.2.1 = 0 := by
  have h0 : (pr_0 T n lo hi s).2.1 = 0 := Classical.byContradiction fun z => by
    unfold pr_9 at h
    rw [cf_f z] at h
    exact z h
  unfold pr_0 at h0
  by_cases z : ¬ pi_ T n 13 s
  · rw [cf_t z] at h0; exact absurd h0 (pf_ne (by decide))
  · exact (Classical.not_not.mp z).1
theorem RW_23 {T : Nat → Nat} {n i f : Nat} {v : Int32} {h : AH} {b : Nat × Nat × Nat} (a : RW_ T n h b i) : RW_ T n (up_I h 241 f v) b i := by
  unfold RW_
  rw [II_n (by decide), II_n (by decide), II_n (by decide), II_n (by decide)]
  exact a
theorem cp3_ {h hh : AH} {k p : Nat} (a : (∀ q, 64 ≤ q → hp_I h p q = hp_I hh p q) ∧ ∀ q, q < k → hp_I h p q = hp_I hh p (64 + q)) (h1 : 255 ≤ p) (h2 : p ≤ 257) (hk : k < 64 := by omega) : (∀ q, 64 ≤ q → hp_I (up_I (up_I (up_I h 255 k (hp_I hh 255 (64 + k))) 256 k (hp_I hh 256 (64 + k))) 257 k (hp_I hh 257 (64 + k))) p q = hp_I hh p q) ∧ ∀ q, q < k + 1 → hp_I (up_I (up_I (up_I h 255 k (hp_I hh 255 (64 + k))) 256 k (hp_I hh 256 (64 + k))) 257 k (hp_I hh 257 (64 + k))) p q = hp_I hh p (64 + q) := by
  refine ⟨fun q hq => ?_, fun q hq => ?_⟩
  · rw [hp_I_I, if_neg (by omega), hp_I_I, if_neg (by omega), hp_I_I, if_neg (by omega)]; exact a.1 q hq
  · rw [hp_I_I, hp_I_I, hp_I_I]
    rcases Nat.lt_succ_iff_lt_or_eq.mp hq with u | u
    · rw [if_neg (by omega), if_neg (by omega), if_neg (by omega)]; exact a.2 q u
    · subst u
      rcases (show p = 255 ∨ p = 256 ∨ p = 257 by omega) with e | e | e <;> subst e
      · rw [if_neg (by omega), if_neg (by omega), if_pos ⟨rfl, rfl⟩]
      · rw [if_neg (by omega), if_pos ⟨rfl, rfl⟩]
      · rw [if_pos ⟨rfl, rfl⟩]
set_option maxHeartbeats 4000000 in
theorem c_X4_text {G : Gv} {h : AH} (hG : gs_ok G) (hm : MI h) {nT : Nat} (hTA : TA_ h nT) (x : Int32) : Ctr G 10 yX4_text cX4_text 3 (some .int) [.ref 241, .int x] h 0 0 (fun r h1 => (¬ (0 ≤ x ∧ x ≤ hp_I h 241 14) ∧ r = some (.int (-1)) ∧ h1 = rf_ (th_ h) 2) ∨ ∃ n, x = nI n ∧ n ≤ nT ∧ XT_ h n r h1) := by
  refine ctr_of (own := RX4) (nm := "text") (by decide) (Nat.le_of_ble_eq_true rfl) ?_
  obtain ⟨hA1, hA2, hA3⟩ := hTA
  have e14 : hp_I (th_ h) 241 14 = nI nT := hA1
  refine v_aload_n dX4_text_0 rfl rfl ?_
  refine v_iconst (v := 0) dX4_text_1 (by decide) ?_
  refine v_thr fX4_1 dX4_text_2 hm ?_
  have hm := MI_th hm
  refine v_iload_n dX4_text_5 rfl rfl ?_
  refine v_i2l dX4_text_6 ?_
  refine v_lconst (v := (0 : Int32).toInt64) dX4_text_7 (by decide) ?_
  refine v_aload_n dX4_text_8 rfl rfl ?_
  refine v_getI fX4_202 dX4_text_9 (mK_obj hm) ?_
  rw [e14]
  refine v_i2l dX4_text_12 ?_
  refine v_pS mtX4_within q1790 q1791 dX4_text_13 (c_X4_within _ _ _) (by decide) ?_
  refine v_if_ne (tgt := 25) dX4_text_16 (by decide) (fun b16 => ?_) (fun b16 => ?_)
  · skip
    rw [b2i_n0] at b16
    obtain ⟨n, hnT, rfl⟩ := nI_rngE b16 (by omega)
    have hTP0 : TP_ ((up_I (up_I (up_I (up_I (up_I (up_I (up_I (th_ h) 241 28 (nI n)) 241 14 0) 241 27 0) 241 31 0) 241 23 0) 241 24 0) 241 25 0)) (tpe_ h) n := ⟨by rw [hp_I_I, if_neg (by decide), hp_I_I, if_neg (by decide), hp_I_I, if_neg (by decide), hp_I_I, if_neg (by decide), hp_I_I, if_neg (by decide), hp_I_I, if_neg (by decide), hp_I_I, if_pos ⟨rfl, rfl⟩], by omega, fun k hk => by obtain ⟨b, hb, eb⟩ := hA3 k (by omega); rw [II_n (by decide), II_n (by decide), II_n (by decide), II_n (by decide), II_n (by decide), II_n (by decide), II_n (by decide), th_A (by decide)]; unfold tpe_; rw [eb, nI_clamp (by omega)]; exact ⟨rfl, hb⟩⟩
    have hmA : MI ((up_I (up_I (up_I (up_I (up_I (up_I (up_I (th_ h) 241 28 (nI n)) 241 14 0) 241 27 0) 241 31 0) 241 23 0) 241 24 0) 241 25 0)) := hm
    have hpA : hp_I ((up_I (up_I (up_I (up_I (up_I (up_I (up_I (th_ h) 241 28 (nI n)) 241 14 0) 241 27 0) 241 31 0) 241 23 0) 241 24 0) 241 25 0)) 241 27 = nI 0 := by rw [hp_I_I, if_neg (by decide), hp_I_I, if_neg (by decide), hp_I_I, if_neg (by decide), hp_I_I, if_neg (by decide), hp_I_I, if_pos ⟨rfl, rfl⟩]; rfl
    refine v_aload_n dX4_text_25 rfl rfl ?_
    refine v_iload_n dX4_text_26 rfl rfl ?_
    refine v_putI fX4_205 (.inl rfl) dX4_text_27 (mK_obj hm) ?_
    refine v_aload_n dX4_text_30 rfl rfl ?_
    refine v_iconst (v := 0) dX4_text_31 (by decide) ?_
    refine v_putI fX4_202 (.inl rfl) dX4_text_32 (mK_obj hm) ?_
    refine v_aload_n dX4_text_35 rfl rfl ?_
    refine v_iconst (v := 0) dX4_text_36 (by decide) ?_
    refine v_putI fX4_223 (.inl rfl) dX4_text_37 (mK_obj hm) ?_
    refine v_aload_n dX4_text_40 rfl rfl ?_
    refine v_iconst (v := 0) dX4_text_41 (by decide) ?_
    refine v_putI fX4_252 (.inl rfl) dX4_text_42 (mK_obj hm) ?_
    refine v_aload_n dX4_text_45 rfl rfl ?_
    refine v_iconst (v := 0) dX4_text_46 (by decide) ?_
    refine v_putI fX4_273 (.inl rfl) dX4_text_47 (mK_obj hm) ?_
    refine v_aload_n dX4_text_50 rfl rfl ?_
    refine v_iconst (v := 0) dX4_text_51 (by decide) ?_
    refine v_putI fX4_285 (.inl rfl) dX4_text_52 (mK_obj hm) ?_
    refine v_aload_n dX4_text_55 rfl rfl ?_
    refine v_iconst (v := 0) dX4_text_56 (by decide) ?_
    refine v_putI fX4_288 (.inl rfl) dX4_text_57 (mK_obj hm) ?_
    refine v_aload_n dX4_text_60 rfl rfl ?_
    refine v_zV mtX4_next q1932 q1934 qs74 rfl (by decide) dX4_text_61 (c_X4_next0 (Q9 := (fun q h1 => q = none ∧ NX_ (tpe_ h) n 0 (up_I (up_I (up_I (up_I (up_I (up_I (up_I (th_ h) 241 28 (nI n)) 241 14 0) 241 27 0) 241 31 0) 241 23 0) 241 24 0) 241 25 0) h1)) hG hmA hTP0 hpA (Nat.zero_le _) (fun h1 z => ⟨rfl, z⟩)) (mK_obj hm) (by decide) (fun r61 h61 q61 z61 => ?_)
    obtain ⟨rfl, hnx⟩ := q61
    have hm : MI h61 := ne_m hnx.1 hmA
    have hS0 : RS_ (tpe_ h) n h61 (ta_ (tpe_ h) n 0, 0, 0) := ⟨hm, TP_ne hnx.1 hTP0, (ta_ge (Nat.zero_le n)).2, hnx.2.1, hnx.2.2.1, hnx.2.2.2.1, fun z => hnx.2.2.2.2.1 (tk_dg z), hnx.2.2.2.2.2.2, by rw [hnx.1.2.2.2.2.1 31 (by omega), hp_I_I, if_neg (by decide), hp_I_I, if_neg (by decide), hp_I_I, if_neg (by decide), hp_I_I, if_pos ⟨rfl, rfl⟩]; rfl, fun z => absurd rfl z, (show 0 < 6 by decide)⟩
    have hX0 : RX_ (tpe_ h) n h61 (ci9_ (tpe_ h) n) := ⟨hS0, fun _ => ⟨by rw [hnx.1.2.2.2.2.1 23 (by omega), hp_I_I, if_neg (by decide), hp_I_I, if_neg (by decide), hp_I_I, if_pos ⟨rfl, rfl⟩]; rfl, Nat.zero_le _, by rw [hnx.1.2.2.2.2.1 24 (by omega), hp_I_I, if_neg (by decide), hp_I_I, if_pos ⟨rfl, rfl⟩]; rfl, Nat.zero_le _, by rw [hnx.1.2.2.2.2.1 25 (by omega), hp_I_I, if_pos ⟨rfl, rfl⟩]; rfl, Nat.zero_le _, fun i hi => absurd hi (Nat.not_lt_zero i)⟩⟩
    have htb0 : tb_ h h61 := by
     obtain ⟨x1, -⟩ := hnx
     refine ⟨x1.1, x1.2.1, x1.2.2.1, fun p h1 _ => ?_, fun p h1 h2 q _ => ?_, fun q _ => ?_, fun f hf => ?_, ?_, ?_, fun p h1 _ => x1.2.2.2.2.2 p h1⟩
     · rw [x1.2.2.2.1 p h1, II_n h1, II_n h1, II_n h1, II_n h1, II_n h1, II_n h1, II_n h1, th_A h1]
     · have h9 : p ≠ 241 := by omega
       rw [x1.2.2.2.1 p h9, II_n h9, II_n h9, II_n h9, II_n h9, II_n h9, II_n h9, II_n h9, th_A h9]
     · rw [x1.2.2.2.1 254 (by decide), II_n (by decide), II_n (by decide), II_n (by decide), II_n (by decide), II_n (by decide), II_n (by decide), II_n (by decide), th_A (by decide)]
     · rw [x1.2.2.2.2.1 f (by omega), hp_I_I, if_neg (by omega), hp_I_I, if_neg (by omega), hp_I_I, if_neg (by omega), hp_I_I, if_neg (by omega), hp_I_I, if_neg (by omega), hp_I_I, if_neg (by omega), hp_I_I, if_neg (by omega), th_I (by omega)]
     · rw [x1.2.2.2.2.1 14 (by omega), hp_I_I, if_neg (by decide), hp_I_I, if_neg (by decide), hp_I_I, if_neg (by decide), hp_I_I, if_neg (by decide), hp_I_I, if_neg (by decide), hp_I_I, if_pos ⟨rfl, rfl⟩]
     · rw [x1.2.2.2.2.1 0 (by omega), hp_I_I, if_neg (by decide), hp_I_I, if_neg (by decide), hp_I_I, if_neg (by decide), hp_I_I, if_neg (by decide), hp_I_I, if_neg (by decide), hp_I_I, if_neg (by decide), hp_I_I, if_neg (by decide)]; rfl
    refine v_loc2 (by repeat' (first | with_reducible exact lsub_n | with_reducible refine lsub_c ?_ ?_ | with_reducible refine lk_hit ?_ | with_reducible refine lk_miss (by decide) ?_ ?_ | exact rfl)) (v_lp3 (fun (f : Nat) (hh : AH) (c : Cfg) => f) (fun (f : Nat) (hh : AH) (c : Cfg) => RX_ (tpe_ h) n hh c ∧ tb_ h hh ∧ tl_ (tpe_ h) n f c = fin_ (tpe_ h) n ∧ tm_ n c ≤ f) (fun (f : Nat) (hh : AH) (c : Cfg) => [(0, .ref 241), (1, .int (nI n))]) (fun (f : Nat) (hh : AH) (c : Cfg) => hh) ?_ (n + 1) _ (ci9_ (tpe_ h) n) ⟨hX0, htb0, rfl, by unfold tm_; split <;> omega⟩)
    intro f hh c hI IH
    obtain ⟨hRX, htb, hT1, hT2⟩ := hI
    obtain ⟨hR1, hR2⟩ := hRX
    have hm : MI hh := hR1.1
    refine v_aload_n dX4_text_64 rfl rfl ?_
    refine v_getI fX4_252 dX4_text_65 (mK_obj hm) ?_
    rw [hR1.2.2.2.2.2.2.2.2.1]
    refine v_if_ne (tgt := 148) dX4_text_68 (by decide) (fun b68 => ?_) (fun b68 => ?_)
    · skip
      have hng : ¬ tg_ (tpe_ h) n c := fun z => b68 (by rw [z.1]; rfl)
      have efin : c = fin_ (tpe_ h) n := by rw [← hT1, tl_f hng]
      rw [efin] at hR1 hR2
      have hE31 : hp_I hh 241 31 = nI (fin_ (tpe_ h) n).1.2.1 := hR1.2.2.2.2.2.2.2.2.1
      have hE32 := hR1.2.2.2.2.2.2.2.2.2.1
      have hw6 := hR1.2.2.2.2.2.2.2.2.2.2
      refine v_aload_n dX4_text_148 rfl rfl ?_
      refine v_aload_n dX4_text_149 rfl rfl ?_
      refine v_getI fX4_252 dX4_text_150 (mK_obj hm) ?_
      rw [hE31]
      refine v_putI fX4_294 (.inl rfl) dX4_text_153 (mK_obj hm) ?_
      refine v_aload_n dX4_text_156 rfl rfl ?_
      refine v_aload_n dX4_text_157 rfl rfl ?_
      refine v_getI fX4_252 dX4_text_158 (mK_obj hm) ?_
      rw [show hp_I (up_I hh 241 34 (nI (fin_ (tpe_ h) n).1.2.1)) 241 31 = nI (fin_ (tpe_ h) n).1.2.1 from hE31]
      refine v_if_ne (tgt := 168) dX4_text_161 (by decide) (fun b161 => ?_) (fun b161 => ?_)
      · skip
        have hz9 : ¬ (fin_ (tpe_ h) n).1.2.1 = 0 := fun z => b161 (by rw [z]; rfl)
        refine v_aload_n dX4_text_168 rfl rfl ?_
        refine v_getI fX4_255 dX4_text_169 (mK_obj hm) ?_
        rw [show hp_I (up_I hh 241 34 (nI (fin_ (tpe_ h) n).1.2.1)) 241 32 = nI (fin_ (tpe_ h) n).1.2.2 from hE32 hz9]
        refine v_putI fX4_70 (.inl rfl) dX4_text_172 (mK_obj hm) ?_
        refine v_aload_n dX4_text_175 rfl rfl ?_
        refine v_getI fX4_252 dX4_text_176 (mK_obj hm) ?_
        first | rw [show hp_I (up_I (up_I hh 241 34 (nI (fin_ (tpe_ h) n).1.2.1)) 241 35 (-1)) 241 31 = nI (fin_ (tpe_ h) n).1.2.1 from hE31] | rw [show hp_I (up_I (up_I hh 241 34 (nI (fin_ (tpe_ h) n).1.2.1)) 241 35 (nI (fin_ (tpe_ h) n).1.2.2)) 241 31 = nI (fin_ (tpe_ h) n).1.2.1 from hE31]
        refine v_if_eq (tgt := 188) dX4_text_179 (by decide) (fun b179 => ?_) (fun b179 => ?_)
        · skip
          have hz8 : (fin_ (tpe_ h) n).1.2.1 = 0 := (nI_eq (by omega) (by decide)).mp (show nI _ = nI 0 from b179)
          exact absurd ((nI_eq (by omega) (by decide)).mp (show nI _ = nI 0 from b179)) hz9
        · skip
          have hz8 : ¬ (fin_ (tpe_ h) n).1.2.1 = 0 := fun z => b179 (by rw [z]; rfl)
          have hmF : MI (up_I (up_I hh 241 34 (nI (fin_ (tpe_ h) n).1.2.1)) 241 35 (nI (fin_ (tpe_ h) n).1.2.2)) := hm
          refine v_aload_n dX4_text_182 rfl rfl ?_
          refine v_iconst (v := nI 4) dX4_text_183 (by decide) ?_
          refine v_zV mtX4_refuse q1827 q1829 qs61 rfl (by decide) dX4_text_184 (c_X4_refuse (k := 4) hmF (by decide)) (mK_obj hm) (by decide) (fun r184 h184 q184 z184 => ?_)
          obtain ⟨rfl, rfl⟩ := q184
          refine v_reti dX4_text_187 rfl (Or.inr ⟨n, rfl, hnT, tz_A (tz_f (tz_f (tz_tb htb) (by omega)) (by omega)) (by omega), by rw [II_n (by decide), hp_I_I, if_neg (by decide), hp_I_I, if_pos ⟨rfl, rfl⟩], Or.inl ⟨hz9, rfl, by rw [II_n (by decide), hp_I_I, if_pos ⟨rfl, rfl⟩], fun q => ?_, fun f h1 h2 => ?_, fun p h1 h2 q hq => ?_, fun q hq => ?_⟩⟩)
          · rw [hp_I_I, II_n (by decide), II_n (by decide), htb.2.2.2.1 242 (by decide) (by omega)]; by_cases e : q = 4
            · rw [if_pos ⟨rfl, e⟩, if_pos e, e]
            · rw [if_neg (fun z => e z.2), if_neg e]
          · rw [II_n (by decide), hp_I_I, if_neg (by omega), hp_I_I, if_neg (by omega)]; exact htb.2.2.2.2.2.2.1 f (by omega)
          · rw [II_n (by omega), II_n (by omega), II_n (by omega)]; exact htb.2.2.2.2.1 p h1 h2 q hq
          · rw [II_n (by decide), II_n (by decide), II_n (by decide)]; exact htb.2.2.2.2.2.1 q hq
      · skip
        have hz9 : (fin_ (tpe_ h) n).1.2.1 = 0 := (nI_eq (by omega) (by decide)).mp (show nI _ = nI 0 from b161)
        refine v_iconst (v := (-1)) dX4_text_164 (by decide) ?_
        refine v_goto (tgt := 172) dX4_text_165 (by decide) ?_
        refine v_putI fX4_70 (.inl rfl) dX4_text_172 (mK_obj hm) ?_
        refine v_aload_n dX4_text_175 rfl rfl ?_
        refine v_getI fX4_252 dX4_text_176 (mK_obj hm) ?_
        first | rw [show hp_I (up_I (up_I hh 241 34 (nI (fin_ (tpe_ h) n).1.2.1)) 241 35 (-1)) 241 31 = nI (fin_ (tpe_ h) n).1.2.1 from hE31] | rw [show hp_I (up_I (up_I hh 241 34 (nI (fin_ (tpe_ h) n).1.2.1)) 241 35 (nI (fin_ (tpe_ h) n).1.2.2)) 241 31 = nI (fin_ (tpe_ h) n).1.2.1 from hE31]
        refine v_if_eq (tgt := 188) dX4_text_179 (by decide) (fun b179 => ?_) (fun b179 => ?_)
        · skip
          have hz8 : (fin_ (tpe_ h) n).1.2.1 = 0 := (nI_eq (by omega) (by decide)).mp (show nI _ = nI 0 from b179)
          obtain ⟨hE23, hm8, hE24, hlo, hE25, hsm, hrW⟩ := hR2 hz8
          have htz : tz_ h (up_I (up_I (up_I (up_I (up_I hh 241 34 (nI (fin_ (tpe_ h) n).1.2.1)) 241 35 (-1)) 241 15 (nI (fin_ (tpe_ h) n).2.1)) 241 16 (nI (fin_ (tpe_ h) n).2.2.1)) 241 17 (nI (fin_ (tpe_ h) n).2.2.2.1)) := tz_f (tz_f (tz_f (tz_f (tz_f (tz_tb htb) (by omega)) (by omega)) (by omega)) (by omega)) (by omega)
          refine v_aload_n dX4_text_188 rfl rfl ?_
          refine v_aload_n dX4_text_189 rfl rfl ?_
          refine v_getI fX4_273 dX4_text_190 (mK_obj hm) ?_
          rw [show hp_I (up_I (up_I hh 241 34 (nI (fin_ (tpe_ h) n).1.2.1)) 241 35 (-1)) 241 23 = nI (fin_ (tpe_ h) n).2.1 from hE23]
          refine v_putI fX4_297 (.inl rfl) dX4_text_193 (mK_obj hm) ?_
          refine v_aload_n dX4_text_196 rfl rfl ?_
          refine v_aload_n dX4_text_197 rfl rfl ?_
          refine v_getI fX4_285 dX4_text_198 (mK_obj hm) ?_
          rw [show hp_I (up_I (up_I (up_I hh 241 34 (nI (fin_ (tpe_ h) n).1.2.1)) 241 35 (-1)) 241 15 (nI (fin_ (tpe_ h) n).2.1)) 241 24 = nI (fin_ (tpe_ h) n).2.2.1 from hE24]
          refine v_putI fX4_300 (.inl rfl) dX4_text_201 (mK_obj hm) ?_
          refine v_aload_n dX4_text_204 rfl rfl ?_
          refine v_aload_n dX4_text_205 rfl rfl ?_
          refine v_getI fX4_288 dX4_text_206 (mK_obj hm) ?_
          rw [show hp_I (up_I (up_I (up_I (up_I hh 241 34 (nI (fin_ (tpe_ h) n).1.2.1)) 241 35 (-1)) 241 15 (nI (fin_ (tpe_ h) n).2.1)) 241 16 (nI (fin_ (tpe_ h) n).2.2.1)) 241 25 = nI (fin_ (tpe_ h) n).2.2.2.1 from hE25]
          refine v_putI fX4_303 (.inl rfl) dX4_text_209 (mK_obj hm) ?_
          refine v_iconst (v := 0) dX4_text_212 (by decide) ?_
          refine v_istore_n dX4_text_213 rfl (by decide) ?_
          refine v_loc2 (by repeat' (first | with_reducible exact lsub_n | with_reducible refine lsub_c ?_ ?_ | with_reducible refine lk_hit ?_ | with_reducible refine lk_miss (by decide) ?_ ?_ | exact rfl)) (v_lp2 (fun (w : Nat) (hg : AH) => (fin_ (tpe_ h) n).2.1 - w) (fun (w : Nat) (hg : AH) => w ≤ (fin_ (tpe_ h) n).2.1 ∧ tz_ h hg ∧ hp_I hg 241 = hp_I (up_I (up_I (up_I (up_I (up_I hh 241 34 (nI (fin_ (tpe_ h) n).1.2.1)) 241 35 (-1)) 241 15 (nI (fin_ (tpe_ h) n).2.1)) 241 16 (nI (fin_ (tpe_ h) n).2.2.1)) 241 17 (nI (fin_ (tpe_ h) n).2.2.2.1)) 241 ∧ hp_I hg 242 = hp_I h 242 ∧ (∀ q, 8 ≤ q → hp_I hg 254 q = hp_I hh 254 q) ∧ (∀ i, i < w → hp_I hg 254 i = hp_I hh 254 (8 + i)) ∧ ∀ p, 255 ≤ p → p ≤ 257 → hp_I hg p = hp_I hh p) (fun (w : Nat) (hg : AH) => [(0, .ref 241), (1, .int (nI n)), (2, .int (nI w))]) (fun (w : Nat) (hg : AH) => hg) ?_ 0 _ ⟨Nat.zero_le _, htz, rfl, by show hp_I hh 242 = _; exact htb.2.2.2.1 242 (by decide) (by omega), fun q _ => rfl, fun i hi => absurd hi (Nat.not_lt_zero i), fun p h1 h2 => by rw [II_n (by omega), II_n (by omega), II_n (by omega), II_n (by omega), II_n (by omega)]⟩)
          intro w hg hI IHw
          obtain ⟨hw1, hw2, hw3, hw32, hw4, hw5, hw7⟩ := hI
          have hm : MI hg := MI_of hm (fun p _ _ => by rw [hw2.2.1, htb.2.1]) (fun k => by rw [hw2.2.2.1, htb.2.2.1])
          have hg15 : hp_I hg 241 15 = nI (fin_ (tpe_ h) n).2.1 := by rw [hw3]; rfl
          have hgc : ∀ w, w < (fin_ (tpe_ h) n).2.1 → hp_I hg 254 (8 + w) = hp_I hh 254 (8 + w) := fun w _ => hw4 _ (by omega)
          refine v_iload_n dX4_text_214 rfl rfl ?_
          refine v_aload_n dX4_text_215 rfl rfl ?_
          refine v_getI fX4_297 dX4_text_216 (mK_obj hm) ?_
          rw [hg15]
          refine v_icmp_ge (tgt := 243) dX4_text_219 (by decide) (fun b219 => ?_) (fun b219 => ?_)
          · skip
            rw [nI_leI (by omega) (by omega)] at b219
            have hwk : (fin_ (tpe_ h) n).2.1 = w := by omega
            refine v_iconst (v := 0) dX4_text_243 (by decide) ?_
            refine v_istore_n dX4_text_244 rfl (by decide) ?_
            refine v_loc2 (by repeat' (first | with_reducible exact lsub_n | with_reducible refine lsub_c ?_ ?_ | with_reducible refine lk_hit ?_ | with_reducible refine lk_miss (by decide) ?_ ?_ | exact rfl)) (v_lp2 (fun (k : Nat) (hk9 : AH) => 64 - k) (fun (k : Nat) (hk9 : AH) => k ≤ 64 ∧ tz_ h hk9 ∧ hp_I hk9 241 = hp_I (up_I (up_I (up_I (up_I (up_I hh 241 34 (nI (fin_ (tpe_ h) n).1.2.1)) 241 35 (-1)) 241 15 (nI (fin_ (tpe_ h) n).2.1)) 241 16 (nI (fin_ (tpe_ h) n).2.2.1)) 241 17 (nI (fin_ (tpe_ h) n).2.2.2.1)) 241 ∧ hp_I hk9 242 = hp_I h 242 ∧ hp_I hk9 254 = hp_I hg 254 ∧ ∀ p, 255 ≤ p → p ≤ 257 → (∀ q, 64 ≤ q → hp_I hk9 p q = hp_I hh p q) ∧ ∀ q, q < k → hp_I hk9 p q = hp_I hh p (64 + q)) (fun (k : Nat) (hk9 : AH) => [(0, .ref 241), (1, .int (nI n)), (2, .int (nI k))]) (fun (k : Nat) (hk9 : AH) => hk9) ?_ 0 _ ⟨Nat.zero_le _, hw2, hw3, hw32, rfl, fun p h1 h2 => ⟨fun q _ => by rw [hw7 p h1 h2], fun q hq => absurd hq (Nat.not_lt_zero q)⟩⟩)
            intro k hk9 hI IHk
            obtain ⟨hy1, hy2, hy3, hy32, hy4, hy5⟩ := hI
            have hm : MI hk9 := MI_of hm (fun p _ _ => by rw [hy2.2.1, hw2.2.1]) (fun k => by rw [hy2.2.2.1, hw2.2.2.1])
            have hk15 : hp_I hk9 241 15 = nI (fin_ (tpe_ h) n).2.1 := by rw [hy3]; rfl
            have hk45 : ∀ q, 64 ≤ q → hp_I hk9 255 q = hp_I hh 255 q := (hy5 255 (by decide) (by decide)).1
            have hk46 : ∀ q, 64 ≤ q → hp_I (up_I hk9 255 k (hp_I hh 255 (64 + k))) 256 q = hp_I hh 256 q := fun q hq => by rw [II_n (by decide)]; exact (hy5 256 (by decide) (by decide)).1 q hq
            have hk47 : ∀ q, 64 ≤ q → hp_I (up_I (up_I hk9 255 k (hp_I hh 255 (64 + k))) 256 k (hp_I hh 256 (64 + k))) 257 q = hp_I hh 257 q := fun q hq => by rw [II_n (by decide), II_n (by decide)]; exact (hy5 257 (by decide) (by decide)).1 q hq
            refine v_iload_n dX4_text_245 rfl rfl ?_
            refine v_bipush (v := nI 64) dX4_text_246 (by decide) ?_
            refine v_icmp_ge (tgt := 302) dX4_text_248 (by decide) (fun b248 => ?_) (fun b248 => ?_)
            · skip
              rw [nI_leI (by omega) (by omega)] at b248
              have hk64 : k = 64 := by omega
              refine v_aload_n dX4_text_302 rfl rfl ?_
              refine v_getI fX4_297 dX4_text_303 (mK_obj hm) ?_
              rw [hk15]
              subst hk64
              refine v_reti dX4_text_306 rfl (Or.inr ⟨n, rfl, hnT, hy2, by rw [hy3, hp_I_I, if_neg (by decide), hp_I_I, if_neg (by decide), hp_I_I, if_neg (by decide), hp_I_I, if_neg (by decide), hp_I_I, if_pos ⟨rfl, rfl⟩], Or.inr ⟨hz8, rfl, hm8, by rw [hy3, hp_I_I, if_neg (by decide), hp_I_I, if_neg (by decide), hp_I_I, if_neg (by decide), hp_I_I, if_pos ⟨rfl, rfl⟩], hy32, hk15, by rw [hy3, hp_I_I, if_neg (by decide), hp_I_I, if_pos ⟨rfl, rfl⟩], hlo, by rw [hy3, hp_I_I, if_pos ⟨rfl, rfl⟩], hsm, fun i hi => ?_⟩⟩)
              have hr := (hrW i hi).2
              have hcl := wc_le (tpe_ h) n ((fin_ (tpe_ h) n).2.2.2.2.1 i)
              refine ⟨by rw [hy4, hw5 i (by omega)]; exact hr.1, fun q hq => ?_⟩
              rw [(hy5 255 (by decide) (by decide)).2 _ (by omega), (hy5 256 (by decide) (by decide)).2 _ (by omega), (hy5 257 (by decide) (by decide)).2 _ (by omega), show 64 + (8 * i + q) = 8 * (i + 8) + q by omega]
              exact hr.2 q hq
            · skip
              rw [nI_leI (by omega) (by omega)] at b248
              have hk63 : k < 64 := by omega
              refine v_aload_n dX4_text_251 rfl rfl ?_
              refine v_getR fX4_57 dX4_text_252 (mK_obj hm) (mR_kindOf hm) ?_ fcA_I
              refine v_iload_n dX4_text_255 rfl rfl ?_
              refine v_aload_n dX4_text_256 rfl rfl ?_
              refine v_getR fX4_57 dX4_text_257 (mK_obj hm) (mR_kindOf hm) ?_ fcA_I
              refine v_bipush (v := 64) dX4_text_260 (by decide) ?_
              refine v_iload_n dX4_text_262 rfl rfl ?_
              refine v_iadd dX4_text_263 ?_
              refine v_iald dX4_text_264 (mK_kindOf hm) (ix_add (ix_lit _) rfl) (by first | assumption | omega) ?_
              rw [hk45 (64 + k) (by omega)]
              refine v_iast dX4_text_265 (mK_kindOf hm) rfl (by first | assumption | omega) ?_
              refine v_aload_n dX4_text_266 rfl rfl ?_
              refine v_getR fX4_60 dX4_text_267 (mK_obj hm) (mR_sideOf hm) ?_ fcA_I
              refine v_iload_n dX4_text_270 rfl rfl ?_
              refine v_aload_n dX4_text_271 rfl rfl ?_
              refine v_getR fX4_60 dX4_text_272 (mK_obj hm) (mR_sideOf hm) ?_ fcA_I
              refine v_bipush (v := 64) dX4_text_275 (by decide) ?_
              refine v_iload_n dX4_text_277 rfl rfl ?_
              refine v_iadd dX4_text_278 ?_
              refine v_iald dX4_text_279 (mK_sideOf hm) (ix_add (ix_lit _) rfl) (by first | assumption | omega) ?_
              rw [hk46 (64 + k) (by omega)]
              refine v_iast dX4_text_280 (mK_sideOf hm) rfl (by first | assumption | omega) ?_
              refine v_aload_n dX4_text_281 rfl rfl ?_
              refine v_getR fX4_63 dX4_text_282 (mK_obj hm) (mR_manyOf hm) ?_ fcA_I
              refine v_iload_n dX4_text_285 rfl rfl ?_
              refine v_aload_n dX4_text_286 rfl rfl ?_
              refine v_getR fX4_63 dX4_text_287 (mK_obj hm) (mR_manyOf hm) ?_ fcA_I
              refine v_bipush (v := 64) dX4_text_290 (by decide) ?_
              refine v_iload_n dX4_text_292 rfl rfl ?_
              refine v_iadd dX4_text_293 ?_
              refine v_iald dX4_text_294 (mK_manyOf hm) (ix_add (ix_lit _) rfl) (by first | assumption | omega) ?_
              rw [hk47 (64 + k) (by omega)]
              refine v_iast dX4_text_295 (mK_manyOf hm) rfl (by first | assumption | omega) ?_
              refine v_iinc dX4_text_296 rfl (by first | with_reducible exact nI_inc _ | exact rfl) (by decide) ?_
              refine v_goto (tgt := 245) dX4_text_299 (by decide) ?_
              exact v_loc2 (by repeat' (first | with_reducible exact lsub_n | with_reducible refine lsub_c ?_ ?_ | with_reducible refine lk_hit ?_ | with_reducible refine lk_miss (by decide) ?_ ?_ | exact rfl)) (IHk (k + 1) _ ⟨by omega, tz_A (tz_A (tz_A hy2 (by omega)) (by omega)) (by omega), by rw [II_n (by decide), II_n (by decide), II_n (by decide)]; exact hy3, by rw [II_n (by decide), II_n (by decide), II_n (by decide)]; exact hy32, by rw [II_n (by decide), II_n (by decide), II_n (by decide)]; exact hy4, fun p h1 h2 => cp3_ (hy5 p h1 h2) h1 h2⟩ (by omega))
          · skip
            rw [nI_leI (by omega) (by omega)] at b219
            have hk : w < (fin_ (tpe_ h) n).2.1 := by omega
            refine v_aload_n dX4_text_222 rfl rfl ?_
            refine v_getR fX4_54 dX4_text_223 (mK_obj hm) (mR_steps hm) ?_ fcA_I
            refine v_iload_n dX4_text_226 rfl rfl ?_
            refine v_aload_n dX4_text_227 rfl rfl ?_
            refine v_getR fX4_54 dX4_text_228 (mK_obj hm) (mR_steps hm) ?_ fcA_I
            refine v_bipush (v := 8) dX4_text_231 (by decide) ?_
            refine v_iload_n dX4_text_233 rfl rfl ?_
            refine v_iadd dX4_text_234 ?_
            refine v_iald dX4_text_235 (mK_steps hm) (ix_add (ix_lit _) rfl) (by first | assumption | omega) ?_
            rw [hgc w hk]
            refine v_iast dX4_text_236 (mK_steps hm) rfl (by first | assumption | omega) ?_
            refine v_iinc dX4_text_237 rfl (by first | with_reducible exact nI_inc _ | exact rfl) (by decide) ?_
            refine v_goto (tgt := 214) dX4_text_240 (by decide) ?_
            exact v_loc2 (by repeat' (first | with_reducible exact lsub_n | with_reducible refine lsub_c ?_ ?_ | with_reducible refine lk_hit ?_ | with_reducible refine lk_miss (by decide) ?_ ?_ | exact rfl)) (IHw (w + 1) _ ⟨by omega, tz_A hw2 (by omega), by rw [II_n (by decide)]; exact hw3, by rw [II_n (by decide)]; exact hw32, fun q hq => by rw [hp_I_I, if_neg (by omega)]; exact hw4 q hq, fun i hi => (by rw [hp_I_I]; rcases Nat.lt_succ_iff_lt_or_eq.mp hi with u | u; (rw [if_neg (by omega)]; exact hw5 i u); (rw [if_pos ⟨rfl, u⟩, u])), fun p h1 h2 => by rw [II_n (by omega)]; exact hw7 p h1 h2⟩ (by omega))
        · skip
          have hz8 : ¬ (fin_ (tpe_ h) n).1.2.1 = 0 := fun z => b179 (by rw [z]; rfl)
          have hmF : MI (up_I (up_I hh 241 34 (nI (fin_ (tpe_ h) n).1.2.1)) 241 35 (nI (fin_ (tpe_ h) n).1.2.2)) := hm
          exact absurd (by rw [hz9]; rfl) b179
    · skip
      have hw6 := hR1.2.2.2.2.2.2.2.2.2.2
      rw [show (0 : Int32) = nI 0 from rfl, nI_eq (by omega) (by decide)] at b68
      refine v_aload_n dX4_text_71 rfl rfl ?_
      refine v_getI fX4_229 dX4_text_72 (mK_obj hm) ?_
      rw [hR1.2.2.2.2.2.1]
      refine v_bipush (v := nI 15) dX4_text_75 (by decide) ?_
      refine v_icmp_eq (tgt := 148) dX4_text_77 (by decide) (fun b77 => ?_) (fun b77 => ?_)
      · skip
        have htl := tk_le (tpe_ h) n c.1.1
        rw [nI_eq (by omega) (by decide)] at b77
        have hng : ¬ tg_ (tpe_ h) n c := fun z => z.2 b77
        have efin : c = fin_ (tpe_ h) n := by rw [← hT1, tl_f hng]
        rw [efin] at hR1 hR2
        have hE31 : hp_I hh 241 31 = nI (fin_ (tpe_ h) n).1.2.1 := hR1.2.2.2.2.2.2.2.2.1
        have hE32 := hR1.2.2.2.2.2.2.2.2.2.1
        have hw6 := hR1.2.2.2.2.2.2.2.2.2.2
        refine v_aload_n dX4_text_148 rfl rfl ?_
        refine v_aload_n dX4_text_149 rfl rfl ?_
        refine v_getI fX4_252 dX4_text_150 (mK_obj hm) ?_
        rw [hE31]
        refine v_putI fX4_294 (.inl rfl) dX4_text_153 (mK_obj hm) ?_
        refine v_aload_n dX4_text_156 rfl rfl ?_
        refine v_aload_n dX4_text_157 rfl rfl ?_
        refine v_getI fX4_252 dX4_text_158 (mK_obj hm) ?_
        rw [show hp_I (up_I hh 241 34 (nI (fin_ (tpe_ h) n).1.2.1)) 241 31 = nI (fin_ (tpe_ h) n).1.2.1 from hE31]
        refine v_if_ne (tgt := 168) dX4_text_161 (by decide) (fun b161 => ?_) (fun b161 => ?_)
        · skip
          have hz9 : ¬ (fin_ (tpe_ h) n).1.2.1 = 0 := fun z => b161 (by rw [z]; rfl)
          refine v_aload_n dX4_text_168 rfl rfl ?_
          refine v_getI fX4_255 dX4_text_169 (mK_obj hm) ?_
          rw [show hp_I (up_I hh 241 34 (nI (fin_ (tpe_ h) n).1.2.1)) 241 32 = nI (fin_ (tpe_ h) n).1.2.2 from hE32 hz9]
          refine v_putI fX4_70 (.inl rfl) dX4_text_172 (mK_obj hm) ?_
          refine v_aload_n dX4_text_175 rfl rfl ?_
          refine v_getI fX4_252 dX4_text_176 (mK_obj hm) ?_
          first | rw [show hp_I (up_I (up_I hh 241 34 (nI (fin_ (tpe_ h) n).1.2.1)) 241 35 (-1)) 241 31 = nI (fin_ (tpe_ h) n).1.2.1 from hE31] | rw [show hp_I (up_I (up_I hh 241 34 (nI (fin_ (tpe_ h) n).1.2.1)) 241 35 (nI (fin_ (tpe_ h) n).1.2.2)) 241 31 = nI (fin_ (tpe_ h) n).1.2.1 from hE31]
          refine v_if_eq (tgt := 188) dX4_text_179 (by decide) (fun b179 => ?_) (fun b179 => ?_)
          · skip
            have hz8 : (fin_ (tpe_ h) n).1.2.1 = 0 := (nI_eq (by omega) (by decide)).mp (show nI _ = nI 0 from b179)
            exact absurd ((nI_eq (by omega) (by decide)).mp (show nI _ = nI 0 from b179)) hz9
          · skip
            have hz8 : ¬ (fin_ (tpe_ h) n).1.2.1 = 0 := fun z => b179 (by rw [z]; rfl)
            have hmF : MI (up_I (up_I hh 241 34 (nI (fin_ (tpe_ h) n).1.2.1)) 241 35 (nI (fin_ (tpe_ h) n).1.2.2)) := hm
            refine v_aload_n dX4_text_182 rfl rfl ?_
            refine v_iconst (v := nI 4) dX4_text_183 (by decide) ?_
            refine v_zV mtX4_refuse q1827 q1829 qs61 rfl (by decide) dX4_text_184 (c_X4_refuse (k := 4) hmF (by decide)) (mK_obj hm) (by decide) (fun r184 h184 q184 z184 => ?_)
            obtain ⟨rfl, rfl⟩ := q184
            refine v_reti dX4_text_187 rfl (Or.inr ⟨n, rfl, hnT, tz_A (tz_f (tz_f (tz_tb htb) (by omega)) (by omega)) (by omega), by rw [II_n (by decide), hp_I_I, if_neg (by decide), hp_I_I, if_pos ⟨rfl, rfl⟩], Or.inl ⟨hz9, rfl, by rw [II_n (by decide), hp_I_I, if_pos ⟨rfl, rfl⟩], fun q => ?_, fun f h1 h2 => ?_, fun p h1 h2 q hq => ?_, fun q hq => ?_⟩⟩)
            · rw [hp_I_I, II_n (by decide), II_n (by decide), htb.2.2.2.1 242 (by decide) (by omega)]; by_cases e : q = 4
              · rw [if_pos ⟨rfl, e⟩, if_pos e, e]
              · rw [if_neg (fun z => e z.2), if_neg e]
            · rw [II_n (by decide), hp_I_I, if_neg (by omega), hp_I_I, if_neg (by omega)]; exact htb.2.2.2.2.2.2.1 f (by omega)
            · rw [II_n (by omega), II_n (by omega), II_n (by omega)]; exact htb.2.2.2.2.1 p h1 h2 q hq
            · rw [II_n (by decide), II_n (by decide), II_n (by decide)]; exact htb.2.2.2.2.2.1 q hq
        · skip
          have hz9 : (fin_ (tpe_ h) n).1.2.1 = 0 := (nI_eq (by omega) (by decide)).mp (show nI _ = nI 0 from b161)
          refine v_iconst (v := (-1)) dX4_text_164 (by decide) ?_
          refine v_goto (tgt := 172) dX4_text_165 (by decide) ?_
          refine v_putI fX4_70 (.inl rfl) dX4_text_172 (mK_obj hm) ?_
          refine v_aload_n dX4_text_175 rfl rfl ?_
          refine v_getI fX4_252 dX4_text_176 (mK_obj hm) ?_
          first | rw [show hp_I (up_I (up_I hh 241 34 (nI (fin_ (tpe_ h) n).1.2.1)) 241 35 (-1)) 241 31 = nI (fin_ (tpe_ h) n).1.2.1 from hE31] | rw [show hp_I (up_I (up_I hh 241 34 (nI (fin_ (tpe_ h) n).1.2.1)) 241 35 (nI (fin_ (tpe_ h) n).1.2.2)) 241 31 = nI (fin_ (tpe_ h) n).1.2.1 from hE31]
          refine v_if_eq (tgt := 188) dX4_text_179 (by decide) (fun b179 => ?_) (fun b179 => ?_)
          · skip
            have hz8 : (fin_ (tpe_ h) n).1.2.1 = 0 := (nI_eq (by omega) (by decide)).mp (show nI _ = nI 0 from b179)
            obtain ⟨hE23, hm8, hE24, hlo, hE25, hsm, hrW⟩ := hR2 hz8
            have htz : tz_ h (up_I (up_I (up_I (up_I (up_I hh 241 34 (nI (fin_ (tpe_ h) n).1.2.1)) 241 35 (-1)) 241 15 (nI (fin_ (tpe_ h) n).2.1)) 241 16 (nI (fin_ (tpe_ h) n).2.2.1)) 241 17 (nI (fin_ (tpe_ h) n).2.2.2.1)) := tz_f (tz_f (tz_f (tz_f (tz_f (tz_tb htb) (by omega)) (by omega)) (by omega)) (by omega)) (by omega)
            refine v_aload_n dX4_text_188 rfl rfl ?_
            refine v_aload_n dX4_text_189 rfl rfl ?_
            refine v_getI fX4_273 dX4_text_190 (mK_obj hm) ?_
            rw [show hp_I (up_I (up_I hh 241 34 (nI (fin_ (tpe_ h) n).1.2.1)) 241 35 (-1)) 241 23 = nI (fin_ (tpe_ h) n).2.1 from hE23]
            refine v_putI fX4_297 (.inl rfl) dX4_text_193 (mK_obj hm) ?_
            refine v_aload_n dX4_text_196 rfl rfl ?_
            refine v_aload_n dX4_text_197 rfl rfl ?_
            refine v_getI fX4_285 dX4_text_198 (mK_obj hm) ?_
            rw [show hp_I (up_I (up_I (up_I hh 241 34 (nI (fin_ (tpe_ h) n).1.2.1)) 241 35 (-1)) 241 15 (nI (fin_ (tpe_ h) n).2.1)) 241 24 = nI (fin_ (tpe_ h) n).2.2.1 from hE24]
            refine v_putI fX4_300 (.inl rfl) dX4_text_201 (mK_obj hm) ?_
            refine v_aload_n dX4_text_204 rfl rfl ?_
            refine v_aload_n dX4_text_205 rfl rfl ?_
            refine v_getI fX4_288 dX4_text_206 (mK_obj hm) ?_
            rw [show hp_I (up_I (up_I (up_I (up_I hh 241 34 (nI (fin_ (tpe_ h) n).1.2.1)) 241 35 (-1)) 241 15 (nI (fin_ (tpe_ h) n).2.1)) 241 16 (nI (fin_ (tpe_ h) n).2.2.1)) 241 25 = nI (fin_ (tpe_ h) n).2.2.2.1 from hE25]
            refine v_putI fX4_303 (.inl rfl) dX4_text_209 (mK_obj hm) ?_
            refine v_iconst (v := 0) dX4_text_212 (by decide) ?_
            refine v_istore_n dX4_text_213 rfl (by decide) ?_
            refine v_loc2 (by repeat' (first | with_reducible exact lsub_n | with_reducible refine lsub_c ?_ ?_ | with_reducible refine lk_hit ?_ | with_reducible refine lk_miss (by decide) ?_ ?_ | exact rfl)) (v_lp2 (fun (w : Nat) (hg : AH) => (fin_ (tpe_ h) n).2.1 - w) (fun (w : Nat) (hg : AH) => w ≤ (fin_ (tpe_ h) n).2.1 ∧ tz_ h hg ∧ hp_I hg 241 = hp_I (up_I (up_I (up_I (up_I (up_I hh 241 34 (nI (fin_ (tpe_ h) n).1.2.1)) 241 35 (-1)) 241 15 (nI (fin_ (tpe_ h) n).2.1)) 241 16 (nI (fin_ (tpe_ h) n).2.2.1)) 241 17 (nI (fin_ (tpe_ h) n).2.2.2.1)) 241 ∧ hp_I hg 242 = hp_I h 242 ∧ (∀ q, 8 ≤ q → hp_I hg 254 q = hp_I hh 254 q) ∧ (∀ i, i < w → hp_I hg 254 i = hp_I hh 254 (8 + i)) ∧ ∀ p, 255 ≤ p → p ≤ 257 → hp_I hg p = hp_I hh p) (fun (w : Nat) (hg : AH) => [(0, .ref 241), (1, .int (nI n)), (2, .int (nI w))]) (fun (w : Nat) (hg : AH) => hg) ?_ 0 _ ⟨Nat.zero_le _, htz, rfl, by show hp_I hh 242 = _; exact htb.2.2.2.1 242 (by decide) (by omega), fun q _ => rfl, fun i hi => absurd hi (Nat.not_lt_zero i), fun p h1 h2 => by rw [II_n (by omega), II_n (by omega), II_n (by omega), II_n (by omega), II_n (by omega)]⟩)
            intro w hg hI IHw
            obtain ⟨hw1, hw2, hw3, hw32, hw4, hw5, hw7⟩ := hI
            have hm : MI hg := MI_of hm (fun p _ _ => by rw [hw2.2.1, htb.2.1]) (fun k => by rw [hw2.2.2.1, htb.2.2.1])
            have hg15 : hp_I hg 241 15 = nI (fin_ (tpe_ h) n).2.1 := by rw [hw3]; rfl
            have hgc : ∀ w, w < (fin_ (tpe_ h) n).2.1 → hp_I hg 254 (8 + w) = hp_I hh 254 (8 + w) := fun w _ => hw4 _ (by omega)
            refine v_iload_n dX4_text_214 rfl rfl ?_
            refine v_aload_n dX4_text_215 rfl rfl ?_
            refine v_getI fX4_297 dX4_text_216 (mK_obj hm) ?_
            rw [hg15]
            refine v_icmp_ge (tgt := 243) dX4_text_219 (by decide) (fun b219 => ?_) (fun b219 => ?_)
            · skip
              rw [nI_leI (by omega) (by omega)] at b219
              have hwk : (fin_ (tpe_ h) n).2.1 = w := by omega
              refine v_iconst (v := 0) dX4_text_243 (by decide) ?_
              refine v_istore_n dX4_text_244 rfl (by decide) ?_
              refine v_loc2 (by repeat' (first | with_reducible exact lsub_n | with_reducible refine lsub_c ?_ ?_ | with_reducible refine lk_hit ?_ | with_reducible refine lk_miss (by decide) ?_ ?_ | exact rfl)) (v_lp2 (fun (k : Nat) (hk9 : AH) => 64 - k) (fun (k : Nat) (hk9 : AH) => k ≤ 64 ∧ tz_ h hk9 ∧ hp_I hk9 241 = hp_I (up_I (up_I (up_I (up_I (up_I hh 241 34 (nI (fin_ (tpe_ h) n).1.2.1)) 241 35 (-1)) 241 15 (nI (fin_ (tpe_ h) n).2.1)) 241 16 (nI (fin_ (tpe_ h) n).2.2.1)) 241 17 (nI (fin_ (tpe_ h) n).2.2.2.1)) 241 ∧ hp_I hk9 242 = hp_I h 242 ∧ hp_I hk9 254 = hp_I hg 254 ∧ ∀ p, 255 ≤ p → p ≤ 257 → (∀ q, 64 ≤ q → hp_I hk9 p q = hp_I hh p q) ∧ ∀ q, q < k → hp_I hk9 p q = hp_I hh p (64 + q)) (fun (k : Nat) (hk9 : AH) => [(0, .ref 241), (1, .int (nI n)), (2, .int (nI k))]) (fun (k : Nat) (hk9 : AH) => hk9) ?_ 0 _ ⟨Nat.zero_le _, hw2, hw3, hw32, rfl, fun p h1 h2 => ⟨fun q _ => by rw [hw7 p h1 h2], fun q hq => absurd hq (Nat.not_lt_zero q)⟩⟩)
              intro k hk9 hI IHk
              obtain ⟨hy1, hy2, hy3, hy32, hy4, hy5⟩ := hI
              have hm : MI hk9 := MI_of hm (fun p _ _ => by rw [hy2.2.1, hw2.2.1]) (fun k => by rw [hy2.2.2.1, hw2.2.2.1])
              have hk15 : hp_I hk9 241 15 = nI (fin_ (tpe_ h) n).2.1 := by rw [hy3]; rfl
              have hk45 : ∀ q, 64 ≤ q → hp_I hk9 255 q = hp_I hh 255 q := (hy5 255 (by decide) (by decide)).1
              have hk46 : ∀ q, 64 ≤ q → hp_I (up_I hk9 255 k (hp_I hh 255 (64 + k))) 256 q = hp_I hh 256 q := fun q hq => by rw [II_n (by decide)]; exact (hy5 256 (by decide) (by decide)).1 q hq
              have hk47 : ∀ q, 64 ≤ q → hp_I (up_I (up_I hk9 255 k (hp_I hh 255 (64 + k))) 256 k (hp_I hh 256 (64 + k))) 257 q = hp_I hh 257 q := fun q hq => by rw [II_n (by decide), II_n (by decide)]; exact (hy5 257 (by decide) (by decide)).1 q hq
              refine v_iload_n dX4_text_245 rfl rfl ?_
              refine v_bipush (v := nI 64) dX4_text_246 (by decide) ?_
              refine v_icmp_ge (tgt := 302) dX4_text_248 (by decide) (fun b248 => ?_) (fun b248 => ?_)
              · skip
                rw [nI_leI (by omega) (by omega)] at b248
                have hk64 : k = 64 := by omega
                refine v_aload_n dX4_text_302 rfl rfl ?_
                refine v_getI fX4_297 dX4_text_303 (mK_obj hm) ?_
                rw [hk15]
                subst hk64
                refine v_reti dX4_text_306 rfl (Or.inr ⟨n, rfl, hnT, hy2, by rw [hy3, hp_I_I, if_neg (by decide), hp_I_I, if_neg (by decide), hp_I_I, if_neg (by decide), hp_I_I, if_neg (by decide), hp_I_I, if_pos ⟨rfl, rfl⟩], Or.inr ⟨hz8, rfl, hm8, by rw [hy3, hp_I_I, if_neg (by decide), hp_I_I, if_neg (by decide), hp_I_I, if_neg (by decide), hp_I_I, if_pos ⟨rfl, rfl⟩], hy32, hk15, by rw [hy3, hp_I_I, if_neg (by decide), hp_I_I, if_pos ⟨rfl, rfl⟩], hlo, by rw [hy3, hp_I_I, if_pos ⟨rfl, rfl⟩], hsm, fun i hi => ?_⟩⟩)
                have hr := (hrW i hi).2
                have hcl := wc_le (tpe_ h) n ((fin_ (tpe_ h) n).2.2.2.2.1 i)
                refine ⟨by rw [hy4, hw5 i (by omega)]; exact hr.1, fun q hq => ?_⟩
                rw [(hy5 255 (by decide) (by decide)).2 _ (by omega), (hy5 256 (by decide) (by decide)).2 _ (by omega), (hy5 257 (by decide) (by decide)).2 _ (by omega), show 64 + (8 * i + q) = 8 * (i + 8) + q by omega]
                exact hr.2 q hq
              · skip
                rw [nI_leI (by omega) (by omega)] at b248
                have hk63 : k < 64 := by omega
                refine v_aload_n dX4_text_251 rfl rfl ?_
                refine v_getR fX4_57 dX4_text_252 (mK_obj hm) (mR_kindOf hm) ?_ fcA_I
                refine v_iload_n dX4_text_255 rfl rfl ?_
                refine v_aload_n dX4_text_256 rfl rfl ?_
                refine v_getR fX4_57 dX4_text_257 (mK_obj hm) (mR_kindOf hm) ?_ fcA_I
                refine v_bipush (v := 64) dX4_text_260 (by decide) ?_
                refine v_iload_n dX4_text_262 rfl rfl ?_
                refine v_iadd dX4_text_263 ?_
                refine v_iald dX4_text_264 (mK_kindOf hm) (ix_add (ix_lit _) rfl) (by first | assumption | omega) ?_
                rw [hk45 (64 + k) (by omega)]
                refine v_iast dX4_text_265 (mK_kindOf hm) rfl (by first | assumption | omega) ?_
                refine v_aload_n dX4_text_266 rfl rfl ?_
                refine v_getR fX4_60 dX4_text_267 (mK_obj hm) (mR_sideOf hm) ?_ fcA_I
                refine v_iload_n dX4_text_270 rfl rfl ?_
                refine v_aload_n dX4_text_271 rfl rfl ?_
                refine v_getR fX4_60 dX4_text_272 (mK_obj hm) (mR_sideOf hm) ?_ fcA_I
                refine v_bipush (v := 64) dX4_text_275 (by decide) ?_
                refine v_iload_n dX4_text_277 rfl rfl ?_
                refine v_iadd dX4_text_278 ?_
                refine v_iald dX4_text_279 (mK_sideOf hm) (ix_add (ix_lit _) rfl) (by first | assumption | omega) ?_
                rw [hk46 (64 + k) (by omega)]
                refine v_iast dX4_text_280 (mK_sideOf hm) rfl (by first | assumption | omega) ?_
                refine v_aload_n dX4_text_281 rfl rfl ?_
                refine v_getR fX4_63 dX4_text_282 (mK_obj hm) (mR_manyOf hm) ?_ fcA_I
                refine v_iload_n dX4_text_285 rfl rfl ?_
                refine v_aload_n dX4_text_286 rfl rfl ?_
                refine v_getR fX4_63 dX4_text_287 (mK_obj hm) (mR_manyOf hm) ?_ fcA_I
                refine v_bipush (v := 64) dX4_text_290 (by decide) ?_
                refine v_iload_n dX4_text_292 rfl rfl ?_
                refine v_iadd dX4_text_293 ?_
                refine v_iald dX4_text_294 (mK_manyOf hm) (ix_add (ix_lit _) rfl) (by first | assumption | omega) ?_
                rw [hk47 (64 + k) (by omega)]
                refine v_iast dX4_text_295 (mK_manyOf hm) rfl (by first | assumption | omega) ?_
                refine v_iinc dX4_text_296 rfl (by first | with_reducible exact nI_inc _ | exact rfl) (by decide) ?_
                refine v_goto (tgt := 245) dX4_text_299 (by decide) ?_
                exact v_loc2 (by repeat' (first | with_reducible exact lsub_n | with_reducible refine lsub_c ?_ ?_ | with_reducible refine lk_hit ?_ | with_reducible refine lk_miss (by decide) ?_ ?_ | exact rfl)) (IHk (k + 1) _ ⟨by omega, tz_A (tz_A (tz_A hy2 (by omega)) (by omega)) (by omega), by rw [II_n (by decide), II_n (by decide), II_n (by decide)]; exact hy3, by rw [II_n (by decide), II_n (by decide), II_n (by decide)]; exact hy32, by rw [II_n (by decide), II_n (by decide), II_n (by decide)]; exact hy4, fun p h1 h2 => cp3_ (hy5 p h1 h2) h1 h2⟩ (by omega))
            · skip
              rw [nI_leI (by omega) (by omega)] at b219
              have hk : w < (fin_ (tpe_ h) n).2.1 := by omega
              refine v_aload_n dX4_text_222 rfl rfl ?_
              refine v_getR fX4_54 dX4_text_223 (mK_obj hm) (mR_steps hm) ?_ fcA_I
              refine v_iload_n dX4_text_226 rfl rfl ?_
              refine v_aload_n dX4_text_227 rfl rfl ?_
              refine v_getR fX4_54 dX4_text_228 (mK_obj hm) (mR_steps hm) ?_ fcA_I
              refine v_bipush (v := 8) dX4_text_231 (by decide) ?_
              refine v_iload_n dX4_text_233 rfl rfl ?_
              refine v_iadd dX4_text_234 ?_
              refine v_iald dX4_text_235 (mK_steps hm) (ix_add (ix_lit _) rfl) (by first | assumption | omega) ?_
              rw [hgc w hk]
              refine v_iast dX4_text_236 (mK_steps hm) rfl (by first | assumption | omega) ?_
              refine v_iinc dX4_text_237 rfl (by first | with_reducible exact nI_inc _ | exact rfl) (by decide) ?_
              refine v_goto (tgt := 214) dX4_text_240 (by decide) ?_
              exact v_loc2 (by repeat' (first | with_reducible exact lsub_n | with_reducible refine lsub_c ?_ ?_ | with_reducible refine lk_hit ?_ | with_reducible refine lk_miss (by decide) ?_ ?_ | exact rfl)) (IHw (w + 1) _ ⟨by omega, tz_A hw2 (by omega), by rw [II_n (by decide)]; exact hw3, by rw [II_n (by decide)]; exact hw32, fun q hq => by rw [hp_I_I, if_neg (by omega)]; exact hw4 q hq, fun i hi => (by rw [hp_I_I]; rcases Nat.lt_succ_iff_lt_or_eq.mp hi with u | u; (rw [if_neg (by omega)]; exact hw5 i u); (rw [if_pos ⟨rfl, u⟩, u])), fun p h1 h2 => by rw [II_n (by omega)]; exact hw7 p h1 h2⟩ (by omega))
          · skip
            have hz8 : ¬ (fin_ (tpe_ h) n).1.2.1 = 0 := fun z => b179 (by rw [z]; rfl)
            have hmF : MI (up_I (up_I hh 241 34 (nI (fin_ (tpe_ h) n).1.2.1)) 241 35 (nI (fin_ (tpe_ h) n).1.2.2)) := hm
            exact absurd (by rw [hz9]; rfl) b179
      · skip
        have htl := tk_le (tpe_ h) n c.1.1
        rw [nI_eq (by omega) (by decide)] at b77
        have hg : tg_ (tpe_ h) n c := ⟨b68, b77⟩
        have htd := tx_dn hg
        obtain ⟨r23, rm8, r24, rlo, r25, rsm, rW⟩ := hR2 b68
        obtain ⟨f2, rfl⟩ : ∃ k, f = k + 1 := ⟨f - 1, by have := htd; omega⟩
        have htl9 : tl_ (tpe_ h) n f2 (tx_ (tpe_ h) n c) = fin_ (tpe_ h) n := by rw [← tl_t hg]; exact hT1
        refine v_aload_n dX4_text_80 rfl rfl ?_
        refine v_bipush (v := nI 8) dX4_text_81 (by decide) ?_
        refine v_pV mtX4_is q1955 q1957 qs77 rfl (by decide) dX4_text_83 (c_X4_is (k := 8) hR1 (by decide)) (mK_obj hm) (by decide) ?_
        refine v_if_eq (tgt := 96) dX4_text_86 (by decide) (fun b86 => ?_) (fun b86 => ?_)
        · skip
          rw [b2c_0] at b86
          refine v_aload_n dX4_text_96 rfl rfl ?_
          refine v_bipush (v := nI 9) dX4_text_97 (by decide) ?_
          refine v_pV mtX4_is q1955 q1957 qs77 rfl (by decide) dX4_text_99 (c_X4_is (k := 9) hR1 (by decide)) (mK_obj hm) (by decide) ?_
          refine v_if_eq (tgt := 140) dX4_text_102 (by decide) (fun b102 => ?_) (fun b102 => ?_)
          · skip
            rw [b2c_0] at b102
            refine v_aload_n dX4_text_140 rfl rfl ?_
            refine v_iconst (v := nI 2) dX4_text_141 (by decide) ?_
            have etx : (tx_ (tpe_ h) n c).1 = pf_ (tpe_ h) n 2 c.1 := by unfold tx_; rw [cf_f b86, cf_f b102]
            refine v_zV mtX4_fails q1963 q1965 qs79 rfl (by decide) dX4_text_142 (c_X4_fails (f := 2) hR1 (by decide)) (mK_obj hm) (by decide) (fun r142 h142 q142 z142 => ?_)
            obtain ⟨rfl, hS142, hf142⟩ := q142
            have hm : MI h142 := hS142.1
            have hXn : RX_ (tpe_ h) n h142 (tx_ (tpe_ h) n c) := RX_f hS142 (pf_ne (by decide)) etx
            have htbn : tb_ h h142 := tb_rd htb hf142
            refine v_goto (tgt := 64) dX4_text_145 (by decide) ?_
            exact v_loc2 (by repeat' (first | with_reducible exact lsub_n | with_reducible refine lsub_c ?_ ?_ | with_reducible refine lk_hit ?_ | with_reducible refine lk_miss (by decide) ?_ ?_ | exact rfl)) (IH f2 _ (tx_ (tpe_ h) n c) ⟨hXn, htbn, htl9, by omega⟩ (by omega))
          · skip
            rw [b2c_n0] at b102
            refine v_aload_n dX4_text_105 rfl rfl ?_
            refine v_zV mtX4_next q1932 q1934 qs74 rfl (by decide) dX4_text_106 (c_X4_nextS hG hR1) (mK_obj hm) (by decide) (fun r106 h106 q106 z106 => ?_)
            obtain ⟨rfl, hS106, hf106⟩ := q106
            have hm : MI h106 := hS106.1
            refine v_aload_n dX4_text_109 rfl rfl ?_
            refine v_aload_n dX4_text_110 rfl rfl ?_
            refine v_iconst (v := nI 0) dX4_text_111 (by decide) ?_
            refine v_bipush (v := nI 20) dX4_text_112 (by decide) ?_
            refine v_zV mtX4_reads q1976 q1978 qs82 rfl (by decide) dX4_text_114 (c_X4_reads (lo := 0) (hi := 20) hG hS106 (by decide) (by decide)) (mK_obj hm) (by decide) (fun r114 h114 q114 z114 => ?_)
            obtain ⟨⟨v114, rfl, hv114⟩, hS114, hf114⟩ := q114
            have hm : MI h114 := hS114.1
            refine v_putI fX4_285 (.inl rfl) dX4_text_117 (mK_obj hm) ?_
            have hSx : RS_ (tpe_ h) n (up_I h114 241 24 v114) (pr_9 (tpe_ h) n 0 20 (pn_ (tpe_ h) n c.1)) := RS_23 hS114 (by decide)
            have hm : MI (up_I h114 241 24 v114) := hSx.1
            refine v_aload_n dX4_text_120 rfl rfl ?_
            refine v_aload_n dX4_text_121 rfl rfl ?_
            refine v_iconst (v := nI 0) dX4_text_122 (by decide) ?_
            refine v_bipush (v := nI 20) dX4_text_123 (by decide) ?_
            refine v_zV mtX4_reads q1976 q1978 qs82 rfl (by decide) dX4_text_125 (c_X4_reads (lo := 0) (hi := 20) hG hSx (by decide) (by decide)) (mK_obj hm) (by decide) (fun r125 h125 q125 z125 => ?_)
            obtain ⟨⟨v125, rfl, hv125⟩, hS125, hf125⟩ := q125
            have hm : MI h125 := hS125.1
            refine v_putI fX4_288 (.inl rfl) dX4_text_128 (mK_obj hm) ?_
            have hSy : RS_ (tpe_ h) n (up_I h125 241 25 v125) (pr_9 (tpe_ h) n 0 20 (pr_9 (tpe_ h) n 0 20 (pn_ (tpe_ h) n c.1))) := RS_23 hS125 (by decide)
            have hm : MI (up_I h125 241 25 v125) := hSy.1
            refine v_aload_n dX4_text_131 rfl rfl ?_
            refine v_bipush (v := nI 14) dX4_text_132 (by decide) ?_
            refine v_zV mtX4_needs q1980 q1982 qs83 rfl (by decide) dX4_text_134 (c_X4_needs (k := 14) hG hSy (by decide)) (mK_obj hm) (by decide) (fun r134 h134 q134 z134 => ?_)
            obtain ⟨rfl, hS134, hf134⟩ := q134
            have hm : MI h134 := hS134.1
            have etx : (tx_ (tpe_ h) n c) = (pd_ (tpe_ h) n 14 (pr_9 (tpe_ h) n 0 20 (pr_9 (tpe_ h) n 0 20 (pn_ (tpe_ h) n c.1))), c.2.1, nv_ (tpe_ h) n (pn_ (tpe_ h) n c.1).1, nv_ (tpe_ h) n (pr_9 (tpe_ h) n 0 20 (pn_ (tpe_ h) n c.1)).1, c.2.2.2.2.1, c.2.2.2.2.2) := by unfold tx_; rw [cf_f b86, cf_t b102]
            have htbn : tb_ h h134 := tb_rd (tb_f (tb_rd (tb_f (tb_rd (tb_rd htb hf106) hf114) (Or.inl rfl)) hf125) (Or.inr rfl)) hf134
            have hXn : RX_ (tpe_ h) n h134 (tx_ (tpe_ h) n c) := by
             rw [etx]
             refine ⟨hS134, fun hz => ?_⟩
             have hz3 := pd_0 hz
             have hz2 := pr_0z hz3
             obtain ⟨o1, o2, o3⟩ := hv114 hz2
             obtain ⟨o4, o5, o6⟩ := hv125 hz3
             refine ⟨?_, rm8, ?_, o3, ?_, o6, fun i hi => ⟨?_, ?_⟩⟩
             · rw [hf134.2.2.2.2.1 23 (by omega), hp_I_I, if_neg (by decide), hf125.2.2.2.2.1 23 (by omega), hp_I_I, if_neg (by decide), hf114.2.2.2.2.1 23 (by omega), hf106.2.2.2.2.1 23 (by omega)]; exact r23
             · rw [hf134.2.2.2.2.1 24 (by omega), hp_I_I, if_neg (by decide), hf125.2.2.2.2.1 24 (by omega), hp_I_I, if_pos ⟨rfl, rfl⟩]; exact o1
             · rw [hf134.2.2.2.2.1 25 (by omega), hp_I_I, if_pos ⟨rfl, rfl⟩]; exact o4
             · rw [hf134.2.2.2.2.2 258 (by decide)]; show hp_L h125 258 i = _; rw [hf125.2.2.2.2.2 258 (by decide)]; show hp_L h114 258 i = _; rw [hf114.2.2.2.2.2 258 (by decide), hf106.2.2.2.2.2 258 (by decide)]; exact (rW i hi).1
             · exact RW_rd (RW_23 (RW_rd (RW_23 (RW_rd (RW_rd (rW i hi).2 hf106) hf114)) hf125)) hf134
            refine v_goto (tgt := 64) dX4_text_137 (by decide) ?_
            exact v_loc2 (by repeat' (first | with_reducible exact lsub_n | with_reducible refine lsub_c ?_ ?_ | with_reducible refine lk_hit ?_ | with_reducible refine lk_miss (by decide) ?_ ?_ | exact rfl)) (IH f2 _ (tx_ (tpe_ h) n c) ⟨hXn, htbn, htl9, by omega⟩ (by omega))
        · skip
          rw [b2c_n0] at b86
          refine v_aload_n dX4_text_89 rfl rfl ?_
          refine v_zV mtX4_readsWay q1959 q1961 qs78 rfl (by decide) dX4_text_90 (c_X4_readsWay (m := c.2.1) (nm := c.2.2.2.2.2) hG hR1 rm8 r23 b68 (fun i hi => (rW i hi).1)) (mK_obj hm) (by decide) (fun r90 h90 q90 z90 => ?_)
          obtain ⟨rfl, hS90, hf90, hok90⟩ := q90
          have hm : MI h90 := hS90.1
          have etx : (tx_ (tpe_ h) n c) = (ry_9 (tpe_ h) n c.2.1 c.2.2.2.2.2 c.1, c.2.1 + 1, c.2.2.1, c.2.2.2.1, (fun i => if i = c.2.1 then pn_ (tpe_ h) n (w3_9 (tpe_ h) n c.2.2.2.2.2 c.1 c.2.1) else c.2.2.2.2.1 i), (fun i => if i = c.2.1 then nw_9 (tpe_ h) n (w3_9 (tpe_ h) n c.2.2.2.2.2 c.1 c.2.1).1 else c.2.2.2.2.2 i)) := cf_t b86
          have hXn : RX_ (tpe_ h) n h90 (tx_ (tpe_ h) n c) := by
           rw [etx]
           refine ⟨hS90, fun hz => ?_⟩
           obtain ⟨o1, o2, o3, o4, o5⟩ := hok90 hz
           refine ⟨o2, by show c.2.1 + 1 ≤ 8; omega, by rw [hf90.2.2.2.2.2.2.1 24 (by omega)]; exact r24, rlo, by rw [hf90.2.2.2.2.2.2.1 25 (by omega)]; exact r25, rsm, fun i hi => ?_⟩
           have hi : i < c.2.1 + 1 := hi
           rcases Nat.lt_succ_iff_lt_or_eq.mp hi with u | u
           · have e : ¬ i = c.2.1 := by omega
             simp only [if_neg e]
             exact ⟨by rw [hf90.2.2.2.2.2.2.2.2 i e]; exact (rW i u).1, RW_wf (rW i u).2 hf90 u⟩
           · subst u
             simp only [if_true]
             exact ⟨o3, o4, o5⟩
          have htbn : tb_ h h90 := tb_wf htb hf90
          refine v_goto (tgt := 64) dX4_text_93 (by decide) ?_
          exact v_loc2 (by repeat' (first | with_reducible exact lsub_n | with_reducible refine lsub_c ?_ ?_ | with_reducible refine lk_hit ?_ | with_reducible refine lk_miss (by decide) ?_ ?_ | exact rfl)) (IH f2 _ (tx_ (tpe_ h) n c) ⟨hXn, htbn, htl9, by omega⟩ (by omega))
  · skip
    rw [b2i_0] at b16
    refine v_aload_n dX4_text_19 rfl rfl ?_
    refine v_iconst (v := nI 2) dX4_text_20 (by decide) ?_
    refine v_zV mtX4_refuse q1827 q1829 qs61 rfl (by decide) dX4_text_21 (c_X4_refuse (k := 2) hm (by decide)) (mK_obj hm) (by decide) (fun r21 h21 q21 z21 => ?_)
    obtain ⟨rfl, rfl⟩ := q21
    exact v_reti dX4_text_24 rfl (Or.inl ⟨by rw [hA1]; exact b16, rfl, rfl⟩)

