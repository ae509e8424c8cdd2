set_option maxRecDepth 100000
theorem lk_in1 (i : Nat) (v : Value) : ∀ m : List (Nat × Value), (∀ q ∈ m, ¬ q.1 = i) → lk_ (ls_in i v m) i = some v
  | [], _ => by unfold ls_in lk_; rw [if_pos rfl]
  | q :: t, h => by
    unfold ls_in
    by_cases z : i < q.1
    · rw [if_pos z]; unfold lk_; rw [if_pos rfl]
    · rw [if_neg z]; unfold lk_; rw [if_neg (h q List.mem_cons_self)]; exact lk_in1 i v t (fun x hx => h x (List.mem_cons_of_mem _ hx))
theorem lk_in2 {i j : Nat} {v : Value} (n : ¬ i = j) : ∀ m : List (Nat × Value), lk_ (ls_in i v m) j = lk_ m j
  | [] => by unfold ls_in lk_; rw [if_neg n]; rfl
  | q :: t => by
    unfold ls_in
    by_cases z : i < q.1
    · rw [if_pos z]
      show (if i = j then some v else lk_ (q :: t) j) = _
      rw [if_neg n]
    · rw [if_neg z]
      show (if q.1 = j then some q.2 else lk_ (ls_in i v t) j) = (if q.1 = j then some q.2 else lk_ t j)
      rw [lk_in2 n t]
theorem lk_fl {i j : Nat} {w : Value} (n : ¬ i = j) (hc : (!(j + 1 == i && w.category == 2)) = true) : ∀ m : List (Nat × Value), lk_ m j = some w → lk_ (m.filter (ls_f1 i)) j = some w
  | [], h => h
  | q :: t, h => by
    have h : (if q.1 = j then some q.2 else lk_ t j) = some w := h
    by_cases e : q.1 = j
    · rw [if_pos e] at h
      have hw : q.2 = w := Option.some.inj h
      have hk : ls_f1 i q = true := by
        unfold ls_f1
        rw [e, hw, hc, Bool.and_true]
        have : (j == i) = false := beq_eq_false_iff_ne.mpr (fun z => n z.symm)
        rw [this]; rfl
      rw [List.filter_cons_of_pos hk]
      show (if q.1 = j then some q.2 else _) = some w
      rw [if_pos e, hw]
    · rw [if_neg e] at h
      by_cases hk : ls_f1 i q = true
      · rw [List.filter_cons_of_pos hk]
        show (if q.1 = j then some q.2 else _) = some w
        rw [if_neg e]
        exact lk_fl n hc t h
      · rw [List.filter_cons_of_neg hk]
        exact lk_fl n hc t h
theorem lk_hit {l : List (Nat × Value)} {i : Nat} {v w : Value} (e : v = w) : lk_ (ls_1 l i v) i = some w := by
  subst e
  refine lk_in1 i v _ (fun q hq z => ?_)
  have h2 := (List.mem_filter.mp hq).2
  unfold ls_f1 at h2
  rw [z, beq_self_eq_true] at h2
  exact absurd h2 (by simp)
theorem lk_miss {l : List (Nat × Value)} {i j : Nat} {v w : Value} (n : ¬ i = j) (hc : (!(j + 1 == i && w.category == 2)) = true) (h : lk_ l j = some w) : lk_ (ls_1 l i v) j = some w := (lk_in2 n _).trans (lk_fl n hc l h)
theorem lsub_n {l : List (Nat × Value)} : lsub [] l := trivial
theorem lsub_c {l t : List (Nat × Value)} {i : Nat} {v : Value} (a : lk_ l i = some v) (b : lsub t l) : lsub ((i, v) :: t) l := And.intro a b
theorem nI_sub1 {n : Nat} (h : 0 < n) : nI n - 1 = nI (n - 1) := by
  obtain ⟨m, rfl⟩ : ∃ m, n = m + 1 := ⟨n - 1, by omega⟩
  rw [nI_pred]; rfl
theorem Pf_i {h h1 hx : AH} {F : AH → Int32 × AH} {v : Int32} (hp : fp_ h hx) (e : F hx = (v, h1)) : Pf h F (some (.int v)) h1 := ⟨hx, hp, by rw [e], by rw [e]⟩
/-- counts over the seconds -/
noncomputable def gc_ (U : Nat → Prop) : Nat → Nat
  | 0 => 0
  | n + 1 => cf_ (U n) (gc_ U n + 1) (gc_ U n)
noncomputable def gf_ (U : Nat → Prop) : Nat → Int32
  | 0 => -1
  | n + 1 => cf_ (U n ∧ gf_ U n = -1) (nI n) (gf_ U n)
noncomputable def gr_ (U : Nat → Prop) : Nat → Nat
  | 0 => 0
  | n + 1 => cf_ (U n) (gr_ U n + 1) 0
noncomputable def gb_ (U : Nat → Prop) : Nat → Nat
  | 0 => 0
  | n + 1 => cf_ (gr_ U (n + 1) ≤ gb_ U n) (gb_ U n) (gr_ U (n + 1))
theorem gc_z (U : Nat → Prop) : gc_ U 0 = 0 := rfl
theorem gf_z (U : Nat → Prop) : gf_ U 0 = -1 := rfl
theorem gr_z (U : Nat → Prop) : gr_ U 0 = 0 := rfl
theorem gb_z (U : Nat → Prop) : gb_ U 0 = 0 := rfl
theorem gc_s (U : Nat → Prop) (n : Nat) : gc_ U (n + 1) = cf_ (U n) (gc_ U n + 1) (gc_ U n) := rfl
theorem gf_s (U : Nat → Prop) (n : Nat) : gf_ U (n + 1) = cf_ (U n ∧ gf_ U n = -1) (nI n) (gf_ U n) := rfl
theorem gr_s (U : Nat → Prop) (n : Nat) : gr_ U (n + 1) = cf_ (U n) (gr_ U n + 1) 0 := rfl
theorem gb_s (U : Nat → Prop) (n : Nat) : gb_ U (n + 1) = cf_ (gr_ U (n + 1) ≤ gb_ U n) (gb_ U n) (gr_ U (n + 1)) := rfl
theorem gc_le (U : Nat → Prop) : ∀ n, gc_ U n ≤ n
  | 0 => Nat.le_refl _
  | n + 1 => by
    have := gc_le U n
    by_cases h : U n
    · rw [gc_s, cf_t h]; omega
    · rw [gc_s, cf_f h]; omega
theorem gr_le (U : Nat → Prop) : ∀ n, gr_ U n ≤ n
  | 0 => Nat.le_refl _
  | n + 1 => by
    have := gr_le U n
    by_cases h : U n
    · rw [gr_s, cf_t h]; omega
    · rw [gr_s, cf_f h]; omega
theorem gb_le (U : Nat → Prop) : ∀ n, gb_ U n ≤ n
  | 0 => Nat.le_refl _
  | n + 1 => by
    have := gb_le U n
    have := gr_le U (n + 1)
    by_cases h : gr_ U (n + 1) ≤ gb_ U n
    · rw [gb_s, cf_t h]; omega
    · rw [gb_s, cf_f h]; omega
theorem gc_a (U : Nat → Prop) (n : Nat) : nI (gc_ U n) + b2c (U n) = nI (gc_ U (n + 1)) := by
  by_cases h : U n
  · rw [gc_s, cf_t h, b2c_t h, nI_1]
  · rw [gc_s, cf_f h, b2c_f h, Int32.add_zero]
noncomputable def sp_gap (h : AH) (sN nC : Nat) (a tr x : Int32) (hx : AH) : Int32 × AH :=
  (cf_ ((0 ≤ a ∧ a < 2 * hp_I h 241 4) ∧ (0 ≤ x ∧ x ≤ 3)) (cf_ (x = 0) (nI (gc_ (fun t => vo_ (hp_I h 243) (ct_ h) nC sN 0 (cf_ (tr = 0) 1070 2870) a.toNatClampNeg t = 0) 100))
    (cf_ (x = 1) (gf_ (fun t => vo_ (hp_I h 243) (ct_ h) nC sN 0 (cf_ (tr = 0) 1070 2870) a.toNatClampNeg t = 0) 100)
    (cf_ (x = 2) (nI (gb_ (fun t => vo_ (hp_I h 243) (ct_ h) nC sN 0 (cf_ (tr = 0) 1070 2870) a.toNatClampNeg t = 0) 100))
    (nI (gc_ (fun t => vo_ (hp_I h 243) (ct_ h) nC sN 0 2870 a.toNatClampNeg t = 0 ∧ ¬ vo_ (hp_I h 243) (ct_ h) nC sN 0 1070 a.toNatClampNeg t = 0) 100))))) (-1), hx)
set_option maxHeartbeats 1000000 in
theorem c_X4_move {G : Gv} {h : AH} {sN nC : Nat} (hS : MS_ h sN nC) (a th x s : Int32) : Ctr G 5 yX4_move cX4_move 8 (some .int) [.ref 241, .int a, .int th, .int x, .int s] h 0 0 (Pf h (sp_move h sN nC a th x s)) := by
  refine ctr_of (own := RX4) (nm := "move") (by decide) (Nat.le_of_ble_eq_true rfl) ?_
  have hm := hS.1
  have hS0 := MS_th hS
  have hs := hS.2.1
  have hv := hS.2.2.1
  have h3 := sv_s hv
  have hpt := fp_th h
  obtain ⟨hM1, hM2⟩ := sv_mov hv
  obtain ⟨hL1, hL2⟩ := sv_laid hv
  refine v_aload_n dX4_move_0 rfl rfl ?_
  refine v_iconst (v := 0) dX4_move_1 (by decide) ?_
  refine v_thr fX4_1 dX4_move_2 hm ?_
  have hm := MI_th hm
  refine v_cut 35 ((0 ≤ a ∧ a < 2 * hp_I h 241 4) ∧ (0 ≤ th ∧ th < hp_I h 243 4881) ∧ (0 ≤ x ∧ x ≤ hp_I h 241 4)) (fun hz35 => ?_) (fun hc35 => ?_)
  · skip
    refine v_iload dX4_move_35 rfl ?_
    refine v_pS mtX4_isSecond q1812 q1813 dX4_move_37 (c_X4_isSecond _) (by decide) ?_
    refine v_if_ne (tgt := 49) dX4_move_40 (by decide) (fun b40 => ?_) (fun b40 => ?_)
    · skip
      have hok : 0 ≤ s ∧ s ≤ 99 := (by (try simp only [b2i_0, b2i_n0, b2c_0, b2c_n0] at *); (try simp only [th_4, th_33] at *); grind)
      obtain ⟨sn, hsn, rfl⟩ := sec1 hok
      have hz9 := hz35
      rw [hs, nI_2, hL2] at hz9
      obtain ⟨an, han, rfl⟩ := nI_rng hz9.1 (by omega)
      obtain ⟨thn, hthn, rfl⟩ := nI_rng hz9.2.1 (by omega)
      obtain ⟨xn, hxn, rfl⟩ := nI_rngE hz9.2.2 (by omega)
      obtain ⟨wn, hwn, ew⟩ : in_ (wh_ (hp_I h 243) thn 100 (nMov (hp_I h 243))) (sN + 1) := wh_in hv hthn _ (Nat.le_refl _)
      refine v_aload_n dX4_move_49 rfl rfl ?_
      refine v_getR fX4_17 dX4_move_50 (mK_obj hm) (mR_all hm) ?_ fcA_I
      refine v_sipush (v := 4882) dX4_move_53 (by decide) ?_
      refine v_iald dX4_move_56 (mK_all hm) (ix_lit _) (by first | assumption | omega) ?_
      rw [th_33, hM2]
      refine v_bipush (v := nI 40) dX4_move_57 (by decide) ?_
      refine v_icmp_ne (tgt := 68) dX4_move_59 (by decide) (fun b59 => ?_) (fun b59 => ?_)
      · skip
        have hM4 : ¬ nMov (hp_I h 243) = 40 := fun z => b59 ((nI_eq (by omega) (by omega)).mpr z)
        refine v_aload_n dX4_move_68 rfl rfl ?_
        refine v_iconst (v := nI 0) dX4_move_69 (by decide) ?_
        refine v_zV mtX4_lays q1855 q1857 qs65 rfl (by decide) dX4_move_70 (c_lays hS0 _) (mK_obj hm) (by decide) (fun r70 h70 q70 z70 => ?_)
        obtain ⟨rfl, hL⟩ := q70
        have hL : LY_ (th_ h) nC sN 0 h70 := hL
        have hm : MI h70 := (MS_fr hS0 hL.1).1
        have hpx : fp_ h h70 := fp_tr (fp_th h) (fp_fr hL.1)
        refine v_aload_n dX4_move_73 rfl rfl ?_
        refine v_iload_n dX4_move_74 rfl rfl ?_
        refine v_bipush (v := nI 100) dX4_move_75 (by decide) ?_
        refine v_pV mtX4_ahead q1874 q1876 qs69 rfl (by decide) dX4_move_77 (c_X4_ahead (sN := sN) (thing := thn) hm (by rw [fr_33 hL.1, th_33]; exact hv) (by omega) _) (mK_obj hm) (by decide) ?_
        rw [fr_33 hL.1, th_33, show (nI 100 : Int32) = 100 from rfl, ew]
        refine v_istore dX4_move_80 (by decide) ?_
        refine v_join 118 (fun z => z = b2c (0 < nMov (hp_I h 243) ∧ nI sn < hp_I h 243 (4680 + 5 * (nMov (hp_I h 243) - 1) + 3))) (fun z hz => ?_) (fun hj118 => ?_)
        · skip
          subst hz
          refine v_istore dX4_move_118 (by decide) ?_
          refine v_cut 175 (¬ mvbad_ (hp_I h 243) (ct_ h) nC sN an thn xn sn) (fun hz175 => ?_) (fun hc175 => ?_)
          · skip
            generalize hMg : nMov (hp_I h 243) = M at *
            refine v_sipush (v := 4680) dX4_move_175 (by decide) ?_
            refine v_iconst (v := 5) dX4_move_178 (by decide) ?_
            refine v_aload_n dX4_move_179 rfl rfl ?_
            refine v_getR fX4_17 dX4_move_180 (mK_obj hm) (mR_all hm) ?_ fcA_I
            refine v_sipush (v := 4882) dX4_move_183 (by decide) ?_
            refine v_iald dX4_move_186 (mK_all hm) (ix_lit _) (by first | assumption | omega) ?_
            rw [fr_33 hL.1, th_33, hM2]
            refine v_imul dX4_move_187 ?_
            refine v_iadd dX4_move_188 ?_
            refine v_istore dX4_move_189 (by decide) ?_
            refine v_aload_n dX4_move_191 rfl rfl ?_
            refine v_getR fX4_17 dX4_move_192 (mK_obj hm) (mR_all hm) ?_ fcA_I
            refine v_iload dX4_move_195 rfl ?_
            refine v_iload_n dX4_move_197 rfl rfl ?_
            refine v_iast dX4_move_198 (mK_all hm) (ix_add (ix_lit _) (ix_mul (ix_lit _) rfl)) (by first | assumption | omega) ?_
            refine v_aload_n dX4_move_199 rfl rfl ?_
            refine v_getR fX4_17 dX4_move_200 (mK_obj hm) (mR_all hm) ?_ fcA_I
            refine v_iload dX4_move_203 rfl ?_
            refine v_iconst (v := 1) dX4_move_205 (by decide) ?_
            refine v_iadd dX4_move_206 ?_
            refine v_iload_n dX4_move_207 rfl rfl ?_
            refine v_iast dX4_move_208 (mK_all hm) (ix_add (ix_add (ix_lit _) (ix_mul (ix_lit _) rfl)) (ix_lit _)) (by first | assumption | omega) ?_
            refine v_aload_n dX4_move_209 rfl rfl ?_
            refine v_getR fX4_17 dX4_move_210 (mK_obj hm) (mR_all hm) ?_ fcA_I
            refine v_iload dX4_move_213 rfl ?_
            refine v_iconst (v := 2) dX4_move_215 (by decide) ?_
            refine v_iadd dX4_move_216 ?_
            refine v_iload_n dX4_move_217 rfl rfl ?_
            refine v_iast dX4_move_218 (mK_all hm) (ix_add (ix_add (ix_lit _) (ix_mul (ix_lit _) rfl)) (ix_lit _)) (by first | assumption | omega) ?_
            refine v_aload_n dX4_move_219 rfl rfl ?_
            refine v_getR fX4_17 dX4_move_220 (mK_obj hm) (mR_all hm) ?_ fcA_I
            refine v_iload dX4_move_223 rfl ?_
            refine v_iconst (v := 3) dX4_move_225 (by decide) ?_
            refine v_iadd dX4_move_226 ?_
            refine v_iload dX4_move_227 rfl ?_
            refine v_iast dX4_move_229 (mK_all hm) (ix_add (ix_add (ix_lit _) (ix_mul (ix_lit _) rfl)) (ix_lit _)) (by first | assumption | omega) ?_
            refine v_aload_n dX4_move_230 rfl rfl ?_
            refine v_getR fX4_17 dX4_move_231 (mK_obj hm) (mR_all hm) ?_ fcA_I
            refine v_iload dX4_move_234 rfl ?_
            refine v_iconst (v := 4) dX4_move_236 (by decide) ?_
            refine v_iadd dX4_move_237 ?_
            refine v_iload dX4_move_238 rfl ?_
            refine v_iast dX4_move_240 (mK_all hm) (ix_add (ix_add (ix_lit _) (ix_mul (ix_lit _) rfl)) (ix_lit _)) (by first | assumption | omega) ?_
            refine v_aload_n dX4_move_241 rfl rfl ?_
            refine v_getR fX4_17 dX4_move_242 (mK_obj hm) (mR_all hm) ?_ fcA_I
            refine v_sipush (v := 4882) dX4_move_245 (by decide) ?_
            refine v_dup2 dX4_move_248 rfl rfl ?_
            refine v_iald dX4_move_249 (mK_all hm) (ix_lit _) (by first | assumption | omega) ?_
            simp only [hp_I_I]
            rw [if_neg (by omega), if_neg (by omega), if_neg (by omega), if_neg (by omega), if_neg (by omega), fr_33 hL.1, th_33, hM2]
            refine v_iconst (v := 1) dX4_move_250 (by decide) ?_
            refine v_iadd dX4_move_251 ?_
            rw [nI_1]
            refine v_iast dX4_move_252 (mK_all hm) (ix_lit _) (by first | assumption | omega) ?_
            refine v_aload_n dX4_move_253 rfl rfl ?_
            refine v_getR fX4_17 dX4_move_254 (mK_obj hm) (mR_all hm) ?_ fcA_I
            refine v_sipush (v := 4882) dX4_move_257 (by decide) ?_
            refine v_iald dX4_move_260 (mK_all hm) (ix_lit _) (by first | assumption | omega) ?_
            rw [hp_I_I, if_pos ⟨rfl, rfl⟩]
            refine v_iconst (v := 1) dX4_move_261 (by decide) ?_
            refine v_isub dX4_move_262 ?_
            rw [nI_pred]
            subst hMg
            exact v_reti dX4_move_263 rfl (Pf_i hpx (by unfold sp_move; rw [cf_f (fun z => z hz35), cf_f (fun z => z hok), cf_f hM4]; simp (disch := omega) only [nI_clamp]; rw [cf_f hz175, ew]; rfl))
          · skip
            refine v_cut 169 (mvbad_ (hp_I h 243) (ct_ h) nC sN an thn xn sn) (fun hz169 => ?_) (fun hc169 => ?_)
            · skip
              refine v_aload_n dX4_move_169 rfl rfl ?_
              refine v_iconst (v := nI 5) dX4_move_170 (by decide) ?_
              refine v_zV mtX4_refuse q1827 q1829 qs61 rfl (by decide) dX4_move_171 (c_X4_refuse hm ?_) (mK_obj hm) (by decide) (fun r171 h171 q171 z171 => ?_)
              · decide
              obtain ⟨rfl, rfl⟩ := q171
              exact v_reti dX4_move_174 rfl (Pf_i hpx (by unfold sp_move; rw [cf_f (fun z => z hz35), cf_f (fun z => z hok), cf_f hM4, nI_clamp (by omega), nI_clamp (by omega), nI_clamp (by omega), nI_clamp (by omega), cf_t hz169]; rfl))
            · skip
              refine v_iload dX4_move_120 rfl ?_
              refine v_if_ne (tgt := 169) dX4_move_122 (by decide) (fun b122 => ?_) (fun b122 => ?_)
              · skip
                exact hc169 (by (try simp only [b2i_0, b2i_n0, b2c_0, b2c_n0, Classical.not_not] at *); unfold mvbad_ rc_; rw [ew, nI_clamp (by omega)]; grind)
              · skip
                refine v_aload_n dX4_move_125 rfl rfl ?_
                refine v_getR fX4_45 dX4_move_126 (mK_obj hm) (mR_isFree hm) ?_ fcA_Z
                refine v_bipush (v := 100) dX4_move_129 (by decide) ?_
                refine v_iload_n dX4_move_131 rfl rfl ?_
                refine v_imul dX4_move_132 ?_
                refine v_iload dX4_move_133 rfl ?_
                refine v_iadd dX4_move_135 ?_
                refine v_zald dX4_move_136 (mK_isFree hm) (ix_add (ix_mul (ix_lit _) rfl) rfl) (by first | assumption | omega) ?_
                rw [LY_free hL han (by omega), th_33, th_ct]
                refine v_if_eq (tgt := 169) dX4_move_137 (by decide) (fun b137 => ?_) (fun b137 => ?_)
                · skip
                  exact hc169 (by (try simp only [b2i_0, b2i_n0, b2c_0, b2c_n0, Classical.not_not] at *); unfold mvbad_ rc_; rw [ew, nI_clamp (by omega)]; grind)
                · skip
                  refine v_iload dX4_move_140 rfl ?_
                  refine v_iload_n dX4_move_142 rfl rfl ?_
                  refine v_icmp_eq (tgt := 169) dX4_move_143 (by decide) (fun b143 => ?_) (fun b143 => ?_)
                  · skip
                    exact hc169 (by (try simp only [b2i_0, b2i_n0, b2c_0, b2c_n0, Classical.not_not] at *); unfold mvbad_ rc_; rw [ew, nI_clamp (by omega)]; grind)
                  · skip
                    refine v_aload_n dX4_move_146 rfl rfl ?_
                    refine v_iload_n dX4_move_147 rfl rfl ?_
                    refine v_iconst (v := 2) dX4_move_148 (by decide) ?_
                    refine v_idiv dX4_move_149 (by decide) ?_
                    rw [show (nI an / 2 : Int32) = nI (an / 2) from pk_div (d := 2) (by omega) (by decide) (by decide)]
                    refine v_iload dX4_move_150 rfl ?_
                    refine v_pV mtX4_reaches q1882 q1884 qs71 rfl (by decide) dX4_move_152 (c_X4_reaches hm (sN := sN) (by rw [fr_31 hL.1, th_4]; exact hs) h3 ?_ ?_) (mK_obj hm) (by decide) ?_
                    · omega
                    · omega
                    refine v_if_eq (tgt := 169) dX4_move_155 (by decide) (fun b155 => ?_) (fun b155 => ?_)
                    · skip
                      exact hc169 (by (try simp only [b2i_0, b2i_n0, b2c_0, b2c_n0, Classical.not_not] at *); unfold mvbad_ rc_; rw [ew, nI_clamp (by omega)]; grind)
                    · skip
                      refine v_aload_n dX4_move_158 rfl rfl ?_
                      refine v_iload_n dX4_move_159 rfl rfl ?_
                      refine v_iconst (v := 2) dX4_move_160 (by decide) ?_
                      refine v_idiv dX4_move_161 (by decide) ?_
                      rw [show (nI an / 2 : Int32) = nI (an / 2) from pk_div (d := 2) (by omega) (by decide) (by decide)]
                      refine v_iload_n dX4_move_162 rfl rfl ?_
                      refine v_pV mtX4_reaches q1882 q1884 qs71 rfl (by decide) dX4_move_163 (c_X4_reaches hm (sN := sN) (by rw [fr_31 hL.1, th_4]; exact hs) h3 ?_ ?_) (mK_obj hm) (by decide) ?_
                      · omega
                      · omega
                      refine v_if_ne (tgt := 175) dX4_move_166 (by decide) (fun b166 => ?_) (fun b166 => ?_)
                      · skip
                        exact hc175 (by (try simp only [b2i_0, b2i_n0, b2c_0, b2c_n0, Classical.not_not] at *); unfold mvbad_ rc_; rw [ew, nI_clamp (by omega)]; grind)
                      · skip
                        exact hc169 (by (try simp only [b2i_0, b2i_n0, b2c_0, b2c_n0, Classical.not_not] at *); unfold mvbad_ rc_; rw [ew, nI_clamp (by omega)]; grind)
        · skip
          refine v_aload_n dX4_move_82 rfl rfl ?_
          refine v_getR fX4_17 dX4_move_83 (mK_obj hm) (mR_all hm) ?_ fcA_I
          refine v_sipush (v := 4882) dX4_move_86 (by decide) ?_
          refine v_iald dX4_move_89 (mK_all hm) (ix_lit _) (by first | assumption | omega) ?_
          rw [fr_33 hL.1, th_33, hM2]
          refine v_if_le (tgt := 117) dX4_move_90 (by decide) (fun b90 => ?_) (fun b90 => ?_)
          · skip
            have hMp : ¬ 0 < nMov (hp_I h 243) := by have z0 := (nI_leI (b := 0) (by omega) (by decide)).mp b90; omega
            refine v_iconst (v := 0) dX4_move_117 (by decide) ?_
            exact hj118 _ (by first | exact (b2c_t ⟨hMp, Int32.not_le.mp b110⟩).symm | exact (b2c_f (fun z => Int32.not_lt.mpr b110 z.2)).symm | exact (b2c_f (fun z => hMp z.1)).symm)
          · skip
            have hMp : 0 < nMov (hp_I h 243) := Nat.pos_of_ne_zero (fun z => b90 (by rw [z]; exact Int32.le_refl _))
            refine v_aload_n dX4_move_93 rfl rfl ?_
            refine v_aload_n dX4_move_94 rfl rfl ?_
            refine v_getR fX4_17 dX4_move_95 (mK_obj hm) (mR_all hm) ?_ fcA_I
            refine v_sipush (v := 4882) dX4_move_98 (by decide) ?_
            refine v_iald dX4_move_101 (mK_all hm) (ix_lit _) (by first | assumption | omega) ?_
            rw [fr_33 hL.1, th_33, hM2]
            refine v_iconst (v := 1) dX4_move_102 (by decide) ?_
            refine v_isub dX4_move_103 ?_
            rw [nI_sub1 hMp]
            refine v_iconst (v := nI 3) dX4_move_104 (by decide) ?_
            refine v_pV mtX4_moveOf q1878 q1880 qs70 rfl (by decide) dX4_move_105 (c_X4_moveOf hm ?_) (mK_obj hm) (by decide) ?_
            · omega
            rw [fr_33 hL.1, th_33]
            refine v_iload dX4_move_108 rfl ?_
            refine v_icmp_le (tgt := 117) dX4_move_110 (by decide) (fun b110 => ?_) (fun b110 => ?_)
            · skip
              refine v_iconst (v := 0) dX4_move_117 (by decide) ?_
              exact hj118 _ (by first | exact (b2c_t ⟨hMp, Int32.not_le.mp b110⟩).symm | exact (b2c_f (fun z => Int32.not_lt.mpr b110 z.2)).symm | exact (b2c_f (fun z => hMp z.1)).symm)
            · skip
              refine v_iconst (v := 1) dX4_move_113 (by decide) ?_
              refine v_goto (tgt := 118) dX4_move_114 (by decide) ?_
              exact hj118 _ (by first | exact (b2c_t ⟨hMp, Int32.not_le.mp b110⟩).symm | exact (b2c_f (fun z => Int32.not_lt.mpr b110 z.2)).symm | exact (b2c_f (fun z => hMp z.1)).symm)
      · skip
        have hM4 : nMov (hp_I h 243) = 40 := (nI_eq (by omega) (by omega)).mp b59
        refine v_aload_n dX4_move_62 rfl rfl ?_
        refine v_iconst (v := nI 3) dX4_move_63 (by decide) ?_
        refine v_zV mtX4_refuse q1827 q1829 qs61 rfl (by decide) dX4_move_64 (c_X4_refuse hm ?_) (mK_obj hm) (by decide) (fun r64 h64 q64 z64 => ?_)
        · decide
        obtain ⟨rfl, rfl⟩ := q64
        exact v_reti dX4_move_67 rfl (Pf_i hpt (by unfold sp_move; rw [cf_f (fun z => z hz35), cf_f (fun z => z hok), cf_t hM4]; rfl))
    · skip
      refine v_aload_n dX4_move_43 rfl rfl ?_
      refine v_iconst (v := nI 2) dX4_move_44 (by decide) ?_
      refine v_zV mtX4_refuse q1827 q1829 qs61 rfl (by decide) dX4_move_45 (c_X4_refuse hm ?_) (mK_obj hm) (by decide) (fun r45 h45 q45 z45 => ?_)
      · decide
      obtain ⟨rfl, rfl⟩ := q45
      have hno : ¬ (0 ≤ s ∧ s ≤ 99) := (by (try simp only [b2i_0, b2i_n0, b2c_0, b2c_n0] at *); (try simp only [th_4, th_33] at *); grind)
      exact v_reti dX4_move_48 rfl (Pf_i hpt (by unfold sp_move; rw [cf_f (fun z => z hz35), cf_t hno]; rfl))
  · skip
    refine v_cut 29 (¬ ((0 ≤ a ∧ a < 2 * hp_I h 241 4) ∧ (0 ≤ th ∧ th < hp_I h 243 4881) ∧ (0 ≤ x ∧ x ≤ hp_I h 241 4))) (fun hz29 => ?_) (fun hc29 => ?_)
    · skip
      refine v_aload_n dX4_move_29 rfl rfl ?_
      refine v_iconst (v := nI 1) dX4_move_30 (by decide) ?_
      refine v_zV mtX4_refuse q1827 q1829 qs61 rfl (by decide) dX4_move_31 (c_X4_refuse hm ?_) (mK_obj hm) (by decide) (fun r31 h31 q31 z31 => ?_)
      · decide
      obtain ⟨rfl, rfl⟩ := q31
      exact v_reti dX4_move_34 rfl (Pf_i hpt (by unfold sp_move; rw [cf_t hz29]; rfl))
    · skip
      refine v_aload_n dX4_move_5 rfl rfl ?_
      refine v_iload_n dX4_move_6 rfl rfl ?_
      refine v_pV mtX4_isHand q1835 q1837 qs62 rfl (by decide) dX4_move_7 (c_X4_isHand hm _) (mK_obj hm) (by decide) ?_
      refine v_if_eq (tgt := 29) dX4_move_10 (by decide) (fun b10 => ?_) (fun b10 => ?_)
      · skip
        exact hc29 (by (try simp only [b2i_0, b2i_n0, b2c_0, b2c_n0] at *); (try simp only [th_4, th_33] at *); grind)
      · skip
        refine v_aload_n dX4_move_13 rfl rfl ?_
        refine v_iload_n dX4_move_14 rfl rfl ?_
        refine v_pV mtX4_isThing q1851 q1853 qs64 rfl (by decide) dX4_move_15 (c_X4_isThing hm _) (mK_obj hm) (by decide) ?_
        refine v_if_eq (tgt := 29) dX4_move_18 (by decide) (fun b18 => ?_) (fun b18 => ?_)
        · skip
          exact hc29 (by (try simp only [b2i_0, b2i_n0, b2c_0, b2c_n0] at *); (try simp only [th_4, th_33] at *); grind)
        · skip
          refine v_aload_n dX4_move_21 rfl rfl ?_
          refine v_iload_n dX4_move_22 rfl rfl ?_
          refine v_pV mtX4_isSpot q1819 q1821 qs60 rfl (by decide) dX4_move_23 (c_X4_isSpot hm _) (mK_obj hm) (by decide) ?_
          refine v_if_ne (tgt := 35) dX4_move_26 (by decide) (fun b26 => ?_) (fun b26 => ?_)
          · skip
            exact hc35 (by (try simp only [b2i_0, b2i_n0, b2c_0, b2c_n0] at *); (try simp only [th_4, th_33] at *); grind)
          · skip
            exact hc29 (by (try simp only [b2i_0, b2i_n0, b2c_0, b2c_n0] at *); (try simp only [th_4, th_33] at *); grind)

set_option maxHeartbeats 1000000 in
theorem c_X4_gap {G : Gv} {h : AH} {sN nC : Nat} (hS : MS_ h sN nC) (a tr x : Int32) : Ctr G 5 yX4_gap cX4_gap 11 (some .int) [.ref 241, .int a, .int tr, .int x] h 0 0 (Pf h (sp_gap h sN nC a tr x)) := by
  refine ctr_of (own := RX4) (nm := "gap") (by decide) (Nat.le_of_ble_eq_true rfl) ?_
  have hm := hS.1
  have hS0 := MS_th hS
  have hs := hS.2.1
  have hv := hS.2.2.1
  have h3 := sv_s hv
  have hpt := fp_th h
  refine v_aload_n dX4_gap_0 rfl rfl ?_
  refine v_iconst (v := 0) dX4_gap_1 (by decide) ?_
  refine v_thr fX4_1 dX4_gap_2 hm ?_
  have hm := MI_th hm
  refine v_cut 27 ((0 ≤ a ∧ a < 2 * hp_I h 241 4) ∧ (0 ≤ x ∧ x ≤ 3)) (fun hz27 => ?_) (fun hc27 => ?_)
  · skip
    have hz9 := hz27
    rw [hs, nI_2] at hz9
    obtain ⟨an, han, rfl⟩ := nI_rng hz9.1 (by omega)
    refine v_aload_n dX4_gap_27 rfl rfl ?_
    refine v_iconst (v := nI 0) dX4_gap_28 (by decide) ?_
    refine v_zV mtX4_lays q1855 q1857 qs65 rfl (by decide) dX4_gap_29 (c_lays hS0 _) (mK_obj hm) (by decide) (fun r29 h29 q29 z29 => ?_)
    obtain ⟨rfl, hL⟩ := q29
    have hL : LY_ (th_ h) nC sN 0 h29 := hL
    have hm : MI h29 := (MS_fr hS0 hL.1).1
    have hpx : fp_ h h29 := fp_tr (fp_th h) (fp_fr hL.1)
    refine v_iconst (v := 0) dX4_gap_32 (by decide) ?_
    refine v_istore dX4_gap_33 (by decide) ?_
    refine v_iconst (v := (-1)) dX4_gap_35 (by decide) ?_
    refine v_istore dX4_gap_36 (by decide) ?_
    refine v_iconst (v := 0) dX4_gap_38 (by decide) ?_
    refine v_istore dX4_gap_39 (by decide) ?_
    refine v_iconst (v := 0) dX4_gap_41 (by decide) ?_
    refine v_istore dX4_gap_42 (by decide) ?_
    refine v_iconst (v := 0) dX4_gap_44 (by decide) ?_
    refine v_istore dX4_gap_45 (by decide) ?_
    refine v_iconst (v := 0) dX4_gap_47 (by decide) ?_
    refine v_istore dX4_gap_48 (by decide) ?_
    refine v_loc2 (by repeat' (first | with_reducible exact lsub_n | with_reducible refine lsub_c ?_ ?_ | with_reducible refine lk_hit ?_ | with_reducible refine lk_miss (by decide) ?_ ?_ | (first | exact rfl | (simp only [gc_z, gf_z, gr_z, gb_z]; exact rfl)))) (v_lp1 (fun (k : Nat) => 100 - k) (fun (k : Nat) => k ≤ 100) (fun (k : Nat) => [(0, .ref 241), (1, .int (nI an)), (2, .int tr), (3, .int x), (4, .int (nI (gc_ (fun t => vo_ (hp_I h 243) (ct_ h) nC sN 0 (cf_ (tr = 0) 1070 2870) an t = 0) k))), (5, .int (gf_ (fun t => vo_ (hp_I h 243) (ct_ h) nC sN 0 (cf_ (tr = 0) 1070 2870) an t = 0) k)), (6, .int (nI (gr_ (fun t => vo_ (hp_I h 243) (ct_ h) nC sN 0 (cf_ (tr = 0) 1070 2870) an t = 0) k))), (7, .int (nI (gb_ (fun t => vo_ (hp_I h 243) (ct_ h) nC sN 0 (cf_ (tr = 0) 1070 2870) an t = 0) k))), (8, .int (nI (gc_ (fun t => vo_ (hp_I h 243) (ct_ h) nC sN 0 2870 an t = 0 ∧ ¬ vo_ (hp_I h 243) (ct_ h) nC sN 0 1070 an t = 0) k))), (9, .int (nI k))]) (fun _ => []) (fun (k : Nat) => h29) ?_ 0 (Nat.zero_le _))
    intro k hI IH
    have hg1 := gc_le (fun t => vo_ (hp_I h 243) (ct_ h) nC sN 0 (cf_ (tr = 0) 1070 2870) an t = 0) k
    have hg2 := gr_le (fun t => vo_ (hp_I h 243) (ct_ h) nC sN 0 (cf_ (tr = 0) 1070 2870) an t = 0) k
    have hg3 := gr_le (fun t => vo_ (hp_I h 243) (ct_ h) nC sN 0 (cf_ (tr = 0) 1070 2870) an t = 0) (k + 1)
    have hg4 := gb_le (fun t => vo_ (hp_I h 243) (ct_ h) nC sN 0 (cf_ (tr = 0) 1070 2870) an t = 0) k
    refine v_iload dX4_gap_50 rfl ?_
    refine v_bipush (v := nI 100) dX4_gap_52 (by decide) ?_
    refine v_icmp_ge (tgt := 200) dX4_gap_54 (by decide) (fun b54 => ?_) (fun b54 => ?_)
    · skip
      rw [nI_leI (by omega) (by omega)] at b54
      have hk : 100 = k := by omega
      subst hk
      refine v_iload_n dX4_gap_200 rfl rfl ?_
      refine v_if_ne (tgt := 209) dX4_gap_201 (by decide) (fun b201 => ?_) (fun b201 => ?_)
      · skip
        refine v_iload_n dX4_gap_209 rfl rfl ?_
        refine v_iconst (v := nI 1) dX4_gap_210 (by decide) ?_
        refine v_icmp_ne (tgt := 219) dX4_gap_211 (by decide) (fun b211 => ?_) (fun b211 => ?_)
        · skip
          refine v_iload_n dX4_gap_219 rfl rfl ?_
          refine v_iconst (v := nI 2) dX4_gap_220 (by decide) ?_
          refine v_icmp_ne (tgt := 229) dX4_gap_221 (by decide) (fun b221 => ?_) (fun b221 => ?_)
          · skip
            refine v_iload dX4_gap_229 rfl ?_
            refine v_reti dX4_gap_231 rfl (Pf_i hpx ?_)
            unfold sp_gap
            rw [cf_t hz27, nI_clamp (by omega)]; (try rw [show (nI 1 : Int32) = 1 from rfl] at b211); (try rw [show (nI 2 : Int32) = 2 from rfl] at b221); first | (rw [cf_t b201]) | (rw [cf_f b201, cf_t b211]) | (rw [cf_f b201, cf_f b211, cf_t b221]) | (rw [cf_f b201, cf_f b211, cf_f b221])
          · skip
            refine v_iload dX4_gap_224 rfl ?_
            refine v_goto (tgt := 231) dX4_gap_226 (by decide) ?_
            refine v_reti dX4_gap_231 rfl (Pf_i hpx ?_)
            unfold sp_gap
            rw [cf_t hz27, nI_clamp (by omega)]; (try rw [show (nI 1 : Int32) = 1 from rfl] at b211); (try rw [show (nI 2 : Int32) = 2 from rfl] at b221); first | (rw [cf_t b201]) | (rw [cf_f b201, cf_t b211]) | (rw [cf_f b201, cf_f b211, cf_t b221]) | (rw [cf_f b201, cf_f b211, cf_f b221])
        · skip
          refine v_iload dX4_gap_214 rfl ?_
          refine v_goto (tgt := 231) dX4_gap_216 (by decide) ?_
          refine v_reti dX4_gap_231 rfl (Pf_i hpx ?_)
          unfold sp_gap
          rw [cf_t hz27, nI_clamp (by omega)]; (try rw [show (nI 1 : Int32) = 1 from rfl] at b211); (try rw [show (nI 2 : Int32) = 2 from rfl] at b221); first | (rw [cf_t b201]) | (rw [cf_f b201, cf_t b211]) | (rw [cf_f b201, cf_f b211, cf_t b221]) | (rw [cf_f b201, cf_f b211, cf_f b221])
      · skip
        refine v_iload dX4_gap_204 rfl ?_
        refine v_goto (tgt := 231) dX4_gap_206 (by decide) ?_
        refine v_reti dX4_gap_231 rfl (Pf_i hpx ?_)
        unfold sp_gap
        rw [cf_t hz27, nI_clamp (by omega)]; (try rw [show (nI 1 : Int32) = 1 from rfl] at b211); (try rw [show (nI 2 : Int32) = 2 from rfl] at b221); first | (rw [cf_t b201]) | (rw [cf_f b201, cf_t b211]) | (rw [cf_f b201, cf_f b211, cf_t b221]) | (rw [cf_f b201, cf_f b211, cf_f b221])
    · skip
      rw [nI_leI (by omega) (by omega)] at b54
      have hk : k < 100 := by omega
      refine v_join 91 (fun z => z = b2c ((fun t => vo_ (hp_I h 243) (ct_ h) nC sN 0 (cf_ (tr = 0) 1070 2870) an t = 0) k)) (fun z hz => ?_) (fun hj91 => ?_)
      · skip
        subst hz
        refine v_istore dX4_gap_91 (by decide) ?_
        refine v_iload dX4_gap_93 rfl ?_
        refine v_join 105 (fun z => z = b2c ((fun t => vo_ (hp_I h 243) (ct_ h) nC sN 0 (cf_ (tr = 0) 1070 2870) an t = 0) k)) (fun z hz => ?_) (fun hj105 => ?_)
        · skip
          subst hz
          refine v_iadd dX4_gap_105 ?_
          rw [gc_a]
          refine v_istore dX4_gap_106 (by decide) ?_
          refine v_join 126 (fun z => z = gf_ (fun t => vo_ (hp_I h 243) (ct_ h) nC sN 0 (cf_ (tr = 0) 1070 2870) an t = 0) (k + 1)) (fun z hz => ?_) (fun hj126 => ?_)
          · skip
            subst hz
            refine v_istore dX4_gap_126 (by decide) ?_
            refine v_join 141 (fun z => z = nI (gr_ (fun t => vo_ (hp_I h 243) (ct_ h) nC sN 0 (cf_ (tr = 0) 1070 2870) an t = 0) (k + 1))) (fun z hz => ?_) (fun hj141 => ?_)
            · skip
              subst hz
              refine v_istore dX4_gap_141 (by decide) ?_
              refine v_join 157 (fun z => z = nI (gb_ (fun t => vo_ (hp_I h 243) (ct_ h) nC sN 0 (cf_ (tr = 0) 1070 2870) an t = 0) (k + 1))) (fun z hz => ?_) (fun hj157 => ?_)
              · skip
                subst hz
                refine v_istore dX4_gap_157 (by decide) ?_
                refine v_iload dX4_gap_159 rfl ?_
                refine v_join 191 (fun z => z = b2c ((fun t => vo_ (hp_I h 243) (ct_ h) nC sN 0 2870 an t = 0 ∧ ¬ vo_ (hp_I h 243) (ct_ h) nC sN 0 1070 an t = 0) k)) (fun z hz => ?_) (fun hj191 => ?_)
                · skip
                  subst hz
                  refine v_iadd dX4_gap_191 ?_
                  rw [gc_a]
                  refine v_istore dX4_gap_192 (by decide) ?_
                  refine v_iinc dX4_gap_194 rfl (by first | with_reducible exact nI_inc _ | exact rfl) (by decide) ?_
                  refine v_goto (tgt := 50) dX4_gap_197 (by decide) ?_
                  refine v_loc2 (by repeat' (first | with_reducible exact lsub_n | with_reducible refine lsub_c ?_ ?_ | with_reducible refine lk_hit ?_ | with_reducible refine lk_miss (by decide) ?_ ?_ | exact rfl)) (IH (k + 1) (by omega) (by omega))
                · skip
                  refine v_aload_n dX4_gap_161 rfl rfl ?_
                  refine v_getR fX4_36 dX4_gap_162 (mK_obj hm) (mR_vouched hm) ?_ fcA_I
                  refine v_bipush (v := 100) dX4_gap_165 (by decide) ?_
                  refine v_iload_n dX4_gap_167 rfl rfl ?_
                  refine v_imul dX4_gap_168 ?_
                  refine v_iload dX4_gap_169 rfl ?_
                  refine v_iadd dX4_gap_171 ?_
                  refine v_iald dX4_gap_172 (mK_vouched hm) (ix_add (ix_mul (ix_lit _) rfl) rfl) (by first | assumption | omega) ?_
                  rw [LY_vou hS0.2.2.1 hL han (by omega), th_33, th_ct]
                  refine v_if_ne (tgt := 190) dX4_gap_173 (by decide) (fun b173 => ?_) (fun b173 => ?_)
                  · skip
                    rw [show (0 : Int32) = nI 0 from rfl, nI_eq (Nat.lt_trans (vo_lt h3.2) (by decide)) (by decide)] at b173
                    have hV2 := b173
                    refine v_iconst (v := 0) dX4_gap_190 (by decide) ?_
                    exact hj191 _ (by first | exact (b2c_t ⟨hV2, hV3⟩).symm | exact (b2c_f (fun z => hV2 z.1)).symm | exact (b2c_f (fun z => z.2 hV3)).symm)
                  · skip
                    rw [show (0 : Int32) = nI 0 from rfl, nI_eq (Nat.lt_trans (vo_lt h3.2) (by decide)) (by decide)] at b173
                    have hV2 := b173
                    refine v_aload_n dX4_gap_176 rfl rfl ?_
                    refine v_iload_n dX4_gap_177 rfl rfl ?_
                    refine v_iload dX4_gap_178 rfl ?_
                    refine v_pV mtX4_sayers q1907 q1909 qs73 rfl (by decide) dX4_gap_180 (c_X4_sayers hS0 hL ?_ ?_) (mK_obj hm) (by decide) ?_
                    · omega
                    · omega
                    rw [th_33, th_ct]
                    refine v_if_eq (tgt := 190) dX4_gap_183 (by decide) (fun b183 => ?_) (fun b183 => ?_)
                    · skip
                      rw [show (0 : Int32) = nI 0 from rfl, nI_eq (Nat.lt_trans (vo_lt h3.2) (by decide)) (by decide)] at b183
                      have hV3 := b183
                      refine v_iconst (v := 0) dX4_gap_190 (by decide) ?_
                      exact hj191 _ (by first | exact (b2c_t ⟨hV2, hV3⟩).symm | exact (b2c_f (fun z => hV2 z.1)).symm | exact (b2c_f (fun z => z.2 hV3)).symm)
                    · skip
                      rw [show (0 : Int32) = nI 0 from rfl, nI_eq (Nat.lt_trans (vo_lt h3.2) (by decide)) (by decide)] at b183
                      have hV3 := b183
                      refine v_iconst (v := 1) dX4_gap_186 (by decide) ?_
                      refine v_goto (tgt := 191) dX4_gap_187 (by decide) ?_
                      exact hj191 _ (by first | exact (b2c_t ⟨hV2, hV3⟩).symm | exact (b2c_f (fun z => hV2 z.1)).symm | exact (b2c_f (fun z => z.2 hV3)).symm)
              · skip
                refine v_iload dX4_gap_143 rfl ?_
                refine v_iload dX4_gap_145 rfl ?_
                refine v_icmp_le (tgt := 155) dX4_gap_147 (by decide) (fun b147 => ?_) (fun b147 => ?_)
                · skip
                  refine v_iload dX4_gap_155 rfl ?_
                  exact hj157 _ (by rw [nI_leI (by omega) (by omega)] at b147; rw [gb_s]; first | exact congrArg nI (cf_t b147).symm | exact congrArg nI (cf_f b147).symm)
                · skip
                  refine v_iload dX4_gap_150 rfl ?_
                  refine v_goto (tgt := 157) dX4_gap_152 (by decide) ?_
                  exact hj157 _ (by rw [nI_leI (by omega) (by omega)] at b147; rw [gb_s]; first | exact congrArg nI (cf_t b147).symm | exact congrArg nI (cf_f b147).symm)
            · skip
              refine v_iload dX4_gap_128 rfl ?_
              refine v_if_eq (tgt := 140) dX4_gap_130 (by decide) (fun b130 => ?_) (fun b130 => ?_)
              · skip
                refine v_iconst (v := 0) dX4_gap_140 (by decide) ?_
                exact hj141 _ (by rw [gr_s]; first | exact congrArg nI (cf_t (b2c_n0.mp b130)).symm | exact congrArg nI (cf_f (b2c_0.mp b130)).symm)
              · skip
                refine v_iload dX4_gap_133 rfl ?_
                refine v_iconst (v := 1) dX4_gap_135 (by decide) ?_
                refine v_iadd dX4_gap_136 ?_
                rw [nI_1]
                refine v_goto (tgt := 141) dX4_gap_137 (by decide) ?_
                exact hj141 _ (by rw [gr_s]; first | exact congrArg nI (cf_t (b2c_n0.mp b130)).symm | exact congrArg nI (cf_f (b2c_0.mp b130)).symm)
          · skip
            refine v_iload dX4_gap_108 rfl ?_
            refine v_if_eq (tgt := 124) dX4_gap_110 (by decide) (fun b110 => ?_) (fun b110 => ?_)
            · skip
              refine v_iload dX4_gap_124 rfl ?_
              exact hj126 _ (by rw [gf_s]; first | exact (cf_t ⟨b2c_n0.mp b110, b116⟩).symm | exact (cf_f (fun z => b2c_0.mp b110 z.1)).symm | exact (cf_f (fun z => b116 z.2)).symm)
            · skip
              refine v_iload dX4_gap_113 rfl ?_
              refine v_iconst (v := (-1)) dX4_gap_115 (by decide) ?_
              refine v_icmp_ne (tgt := 124) dX4_gap_116 (by decide) (fun b116 => ?_) (fun b116 => ?_)
              · skip
                refine v_iload dX4_gap_124 rfl ?_
                exact hj126 _ (by rw [gf_s]; first | exact (cf_t ⟨b2c_n0.mp b110, b116⟩).symm | exact (cf_f (fun z => b2c_0.mp b110 z.1)).symm | exact (cf_f (fun z => b116 z.2)).symm)
              · skip
                refine v_iload dX4_gap_119 rfl ?_
                refine v_goto (tgt := 126) dX4_gap_121 (by decide) ?_
                exact hj126 _ (by rw [gf_s]; first | exact (cf_t ⟨b2c_n0.mp b110, b116⟩).symm | exact (cf_f (fun z => b2c_0.mp b110 z.1)).symm | exact (cf_f (fun z => b116 z.2)).symm)
        · skip
          refine v_iload dX4_gap_95 rfl ?_
          refine v_if_eq (tgt := 104) dX4_gap_97 (by decide) (fun b97 => ?_) (fun b97 => ?_)
          · skip
            refine v_iconst (v := 0) dX4_gap_104 (by decide) ?_
            exact hj105 _ (by first | exact (b2c_f (b2c_0.mp b97)).symm | exact (b2c_t (b2c_n0.mp b97)).symm)
          · skip
            refine v_iconst (v := 1) dX4_gap_100 (by decide) ?_
            refine v_goto (tgt := 105) dX4_gap_101 (by decide) ?_
            exact hj105 _ (by first | exact (b2c_f (b2c_0.mp b97)).symm | exact (b2c_t (b2c_n0.mp b97)).symm)
      · skip
        refine v_iload_n dX4_gap_57 rfl rfl ?_
        refine v_if_eq (tgt := 76) dX4_gap_58 (by decide) (fun b58 => ?_) (fun b58 => ?_)
        · skip
          refine v_aload_n dX4_gap_76 rfl rfl ?_
          refine v_iload_n dX4_gap_77 rfl rfl ?_
          refine v_iload dX4_gap_78 rfl ?_
          refine v_pV mtX4_sayers q1907 q1909 qs73 rfl (by decide) dX4_gap_80 (c_X4_sayers hS0 hL ?_ ?_) (mK_obj hm) (by decide) ?_
          · omega
          · omega
          rw [th_33, th_ct]
          refine v_if_ne (tgt := 90) dX4_gap_83 (by decide) (fun b83 => ?_) (fun b83 => ?_)
          · skip
            rw [show (0 : Int32) = nI 0 from rfl, nI_eq (Nat.lt_trans (vo_lt h3.2) (by decide)) (by decide)] at b83
            have hV0 := b83
            refine v_iconst (v := 0) dX4_gap_90 (by decide) ?_
            exact hj91 _ (by show _ = b2c (vo_ (hp_I h 243) (ct_ h) nC sN 0 (cf_ (tr = 0) 1070 2870) an k = 0); (first | rw [cf_t b58] | rw [cf_f b58]); first | exact (b2c_t hV0).symm | exact (b2c_f hV0).symm)
          · skip
            rw [show (0 : Int32) = nI 0 from rfl, nI_eq (Nat.lt_trans (vo_lt h3.2) (by decide)) (by decide)] at b83
            have hV0 := b83
            refine v_iconst (v := 1) dX4_gap_86 (by decide) ?_
            refine v_goto (tgt := 91) dX4_gap_87 (by decide) ?_
            exact hj91 _ (by show _ = b2c (vo_ (hp_I h 243) (ct_ h) nC sN 0 (cf_ (tr = 0) 1070 2870) an k = 0); (first | rw [cf_t b58] | rw [cf_f b58]); first | exact (b2c_t hV0).symm | exact (b2c_f hV0).symm)
        · skip
          refine v_aload_n dX4_gap_61 rfl rfl ?_
          refine v_getR fX4_36 dX4_gap_62 (mK_obj hm) (mR_vouched hm) ?_ fcA_I
          refine v_bipush (v := 100) dX4_gap_65 (by decide) ?_
          refine v_iload_n dX4_gap_67 rfl rfl ?_
          refine v_imul dX4_gap_68 ?_
          refine v_iload dX4_gap_69 rfl ?_
          refine v_iadd dX4_gap_71 ?_
          refine v_iald dX4_gap_72 (mK_vouched hm) (ix_add (ix_mul (ix_lit _) rfl) rfl) (by first | assumption | omega) ?_
          rw [LY_vou hS0.2.2.1 hL han (by omega), th_33, th_ct]
          refine v_goto (tgt := 83) dX4_gap_73 (by decide) ?_
          refine v_if_ne (tgt := 90) dX4_gap_83 (by decide) (fun b83 => ?_) (fun b83 => ?_)
          · skip
            rw [show (0 : Int32) = nI 0 from rfl, nI_eq (Nat.lt_trans (vo_lt h3.2) (by decide)) (by decide)] at b83
            have hV0 := b83
            refine v_iconst (v := 0) dX4_gap_90 (by decide) ?_
            exact hj91 _ (by show _ = b2c (vo_ (hp_I h 243) (ct_ h) nC sN 0 (cf_ (tr = 0) 1070 2870) an k = 0); (first | rw [cf_t b58] | rw [cf_f b58]); first | exact (b2c_t hV0).symm | exact (b2c_f hV0).symm)
          · skip
            rw [show (0 : Int32) = nI 0 from rfl, nI_eq (Nat.lt_trans (vo_lt h3.2) (by decide)) (by decide)] at b83
            have hV0 := b83
            refine v_iconst (v := 1) dX4_gap_86 (by decide) ?_
            refine v_goto (tgt := 91) dX4_gap_87 (by decide) ?_
            exact hj91 _ (by show _ = b2c (vo_ (hp_I h 243) (ct_ h) nC sN 0 (cf_ (tr = 0) 1070 2870) an k = 0); (first | rw [cf_t b58] | rw [cf_f b58]); first | exact (b2c_t hV0).symm | exact (b2c_f hV0).symm)
  · skip
    refine v_cut 25 (¬ ((0 ≤ a ∧ a < 2 * hp_I h 241 4) ∧ (0 ≤ x ∧ x ≤ 3))) (fun hz25 => ?_) (fun hc25 => ?_)
    · skip
      refine v_iconst (v := (-1)) dX4_gap_25 (by decide) ?_
      exact v_reti dX4_gap_26 rfl (Pf_i hpt (by unfold sp_gap; rw [cf_f hz25]))
    · skip
      refine v_aload_n dX4_gap_5 rfl rfl ?_
      refine v_iload_n dX4_gap_6 rfl rfl ?_
      refine v_pV mtX4_isHand q1835 q1837 qs62 rfl (by decide) dX4_gap_7 (c_X4_isHand hm _) (mK_obj hm) (by decide) ?_
      refine v_if_eq (tgt := 25) dX4_gap_10 (by decide) (fun b10 => ?_) (fun b10 => ?_)
      · skip
        exact hc25 (by (try simp only [b2i_0, b2i_n0, b2c_0, b2c_n0] at *); (try simp only [th_4, th_33] at *); grind)
      · skip
        refine v_iload_n dX4_gap_13 rfl rfl ?_
        refine v_i2l dX4_gap_14 ?_
        refine v_lconst (v := (0 : Int32).toInt64) dX4_gap_15 (by decide) ?_
        refine v_ldc2 (v := (3 : Int32).toInt64) q1788 dX4_gap_16 (by decide) ?_
        refine v_pS mtX4_within q1790 q1791 dX4_gap_19 (c_X4_within _ _ _) (by decide) ?_
        refine v_if_ne (tgt := 27) dX4_gap_22 (by decide) (fun b22 => ?_) (fun b22 => ?_)
        · skip
          exact hc27 (by (try simp only [b2i_0, b2i_n0, b2c_0, b2c_n0] at *); (try simp only [th_4, th_33] at *); grind)
        · skip
          exact hc25 (by (try simp only [b2i_0, b2i_n0, b2c_0, b2c_n0] at *); (try simp only [th_4, th_33] at *); grind)

