set_option maxRecDepth 100000
noncomputable def ta_ (T : Nat → Nat) (n p : Nat) : Nat := re_ (sp9_ T n) n p
noncomputable def te_ (T : Nat → Nat) (n a : Nat) : Nat := cf_ (sm9_ T n a) (re_ (sm9_ T n) n a) (cf_ (dg9_ T n a) (re_ (dg9_ T n) n a) (cf_ (a < n) (a + 1) a))
noncomputable def tk9_ (T : Nat → Nat) (n a : Nat) : Nat := cf_ (n ≤ a) 15 (cf_ (sm9_ T n a) (cf_ (8 < te_ T n a - a) 16 (ky_ T a (te_ T n a))) (cf_ (dg9_ T n a) (cf_ (3 < te_ T n a - a) 16 13) (cf_ (T a = 59) 14 16)))
def nu_ (T : Nat → Nat) (a : Nat) : Nat → Nat
  | 0 => 0
  | c + 1 => if c < 3 then 10 * nu_ T a c + T (a + c) - 48 else nu_ T a c
theorem nu_s (T : Nat → Nat) (a c : Nat) : nu_ T a (c + 1) = if c < 3 then 10 * nu_ T a c + T (a + c) - 48 else nu_ T a c := rfl
theorem nu_lt {T : Nat → Nat} {n a : Nat} : ∀ c, (∀ j, j < c → dg9_ T n (a + j)) → nu_ T a c < 10 ^ (min c 3)
  | 0, _ => (Nat.pow_pos (by decide) : 0 < 10 ^ min 0 3)
  | c + 1, h => by
    have ih := nu_lt c (fun j hj => h j (by omega))
    have hc := (h c (by omega)).2
    rw [nu_s]
    by_cases z : c < 3
    · rw [if_pos z]
      rw [Nat.min_eq_left (by omega)] at ih
      rw [Nat.min_eq_left (by omega), Nat.pow_succ]
      omega
    · rw [if_neg z]
      rw [Nat.min_eq_right (by omega)] at ih ⊢
      exact ih
def na_ (T : Nat → Nat) (a : Nat) : Nat → Int64
  | 0 => (0 : Int32).toInt64
  | c + 1 => if c < 8 then (27 : Int32).toInt64 * na_ T a c + (nI (T (a + c))).toInt64 - (97 : Int32).toInt64 + (1 : Int32).toInt64 else na_ T a c
theorem na_s (T : Nat → Nat) (a c : Nat) : na_ T a (c + 1) = if c < 8 then (27 : Int32).toInt64 * na_ T a c + (nI (T (a + c))).toInt64 - (97 : Int32).toInt64 + (1 : Int32).toInt64 else na_ T a c := rfl
/-- what the next token changes -/
def ne_ (h h' : AH) : Prop := hp_n h' = hp_n h ∧ hp_K h' = hp_K h ∧ hp_R h' = hp_R h ∧ (∀ p, p ≠ 241 → hp_I h' p = hp_I h p) ∧ (∀ f, f < 26 ∨ f = 28 ∨ 30 < f → hp_I h' 241 f = hp_I h 241 f) ∧ ∀ p, p ≠ 241 → hp_L h' p = hp_L h p
theorem ne_rf (h : AH) : ne_ h h := ⟨rfl, rfl, rfl, fun _ _ => rfl, fun _ _ => rfl, fun _ _ => rfl⟩
theorem ne_tr {h h1 h2 : AH} (a : ne_ h h1) (b : ne_ h1 h2) : ne_ h h2 := ⟨b.1.trans a.1, b.2.1.trans a.2.1, b.2.2.1.trans a.2.2.1, fun p hp => (b.2.2.2.1 p hp).trans (a.2.2.2.1 p hp), fun f hf => (b.2.2.2.2.1 f hf).trans (a.2.2.2.2.1 f hf), fun p hp => (b.2.2.2.2.2 p hp).trans (a.2.2.2.2.2 p hp)⟩
theorem ne_f {h h1 : AH} {f : Nat} {v : Int32} (a : ne_ h h1) (hf : f = 26 ∨ f = 27 ∨ f = 29 ∨ f = 30) : ne_ h (up_I h1 241 f v) := ⟨a.1, a.2.1, a.2.2.1, fun p hp => by rw [II_n hp]; exact a.2.2.2.1 p hp, fun g hg => by rw [hp_I_I, if_neg (by omega)]; exact a.2.2.2.2.1 g hg, a.2.2.2.2.2⟩
theorem ne_L {h h1 : AH} {k : Nat} {v : Int64} (a : ne_ h h1) : ne_ h (up_L h1 241 k v) := ⟨a.1, a.2.1, a.2.2.1, a.2.2.2.1, a.2.2.2.2.1, fun p hp => (funext fun j => by rw [hp_L_L, if_neg (fun z => hp z.1), a.2.2.2.2.2 p hp])⟩
theorem ne_m {h h1 : AH} (a : ne_ h h1) (hm : MI h) : MI h1 := MI_of hm (fun p _ _ => by rw [a.2.1]) (fun k => by rw [a.2.2.1])
theorem TP_ne {h h1 : AH} {T : Nat → Nat} {n : Nat} (a : ne_ h h1) (b : TP_ h T n) : TP_ h1 T n := by
  unfold TP_
  rw [a.2.2.2.2.1 28 (by omega), a.2.2.2.1 253 (by decide)]
  exact b
/-- behind the next token, from p on -/
def NX_ (T : Nat → Nat) (n p : Nat) (h h1 : AH) : Prop := ne_ h h1 ∧ hp_I h1 241 26 = nI (ta_ T n p) ∧ hp_I h1 241 27 = nI (te_ T n (ta_ T n p)) ∧ hp_I h1 241 29 = nI (tk9_ T n (ta_ T n p)) ∧ (dg9_ T n (ta_ T n p) → hp_I h1 241 30 = nI (nu_ T (ta_ T n p) (te_ T n (ta_ T n p) - ta_ T n p))) ∧ (¬ dg9_ T n (ta_ T n p) → hp_I h1 241 30 = hp_I h 241 30) ∧ (sm9_ T n (ta_ T n p) → hp_L h1 241 33 = na_ T (ta_ T n p) (te_ T n (ta_ T n p) - ta_ T n p))
theorem NX_mk {T : Nat → Nat} {n p kd : Nat} {h H : AH} (h1 : ne_ h H) (h2 : hp_I H 241 26 = nI (ta_ T n p)) (h3 : hp_I H 241 27 = nI (te_ T n (ta_ T n p))) (h5 : dg9_ T n (ta_ T n p) → hp_I H 241 30 = nI (nu_ T (ta_ T n p) (te_ T n (ta_ T n p) - ta_ T n p))) (h6 : ¬ dg9_ T n (ta_ T n p) → hp_I H 241 30 = hp_I h 241 30) (h7 : sm9_ T n (ta_ T n p) → hp_L H 241 33 = na_ T (ta_ T n p) (te_ T n (ta_ T n p) - ta_ T n p)) (hk : kd = tk9_ T n (ta_ T n p)) : NX_ T n p h (up_I H 241 29 (nI kd)) := by
  refine ⟨ne_f h1 (by omega), ?_, ?_, ?_, fun z => ?_, fun z => ?_, h7⟩
  · rw [hp_I_I, if_neg (by decide)]; exact h2
  · rw [hp_I_I, if_neg (by decide)]; exact h3
  · rw [hp_I_I, if_pos ⟨rfl, rfl⟩, hk]
  · rw [hp_I_I, if_neg (by decide)]; exact h5 z
  · rw [hp_I_I, if_neg (by decide)]; exact h6 z
theorem ta_ge {T : Nat → Nat} {n p : Nat} (h : p ≤ n) : p ≤ ta_ T n p ∧ ta_ T n p ≤ n := re_ge h
theorem te_ge {T : Nat → Nat} {n a : Nat} (h : a ≤ n) : a ≤ te_ T n a ∧ te_ T n a ≤ n := by
  unfold te_
  by_cases z : sm9_ T n a
  · rw [cf_t z]; exact re_ge h
  · rw [cf_f z]
    by_cases y : dg9_ T n a
    · rw [cf_t y]; exact re_ge h
    · rw [cf_f y]
      by_cases x : a < n
      · rw [cf_t x]; omega
      · rw [cf_f x]; omega
set_option maxHeartbeats 2000000 in
theorem c_X4_next0 {G : Gv} {h : AH} (hG : gs_ok G) (hm : MI h) {T : Nat → Nat} {n : Nat} (hT : TP_ h T n) {p : Nat} (hp : hp_I h 241 27 = nI p) (hpn : p ≤ n) {Q9 : Option Value → AH → Prop} (hQ : ∀ h1, NX_ T n p h h1 → Q9 none h1) : Ctr G 6 yX4_next cX4_next 1 none [.ref 241] h 0 0 (Q9) := by
  refine ctr_of (own := RX4) (nm := "next") (by decide) (Nat.le_of_ble_eq_true rfl) ?_
  have hT0 := hT
  obtain ⟨hz9, hn4, hT9⟩ := hT
  have hT8 : ∀ k, k < n → T k < 2 ^ 8 := fun k hk => (hT9 k hk).2
  have hm0 := hm
  refine v_aload_n dX4_next_0 rfl rfl ?_
  refine v_aload_n dX4_next_1 rfl rfl ?_
  refine v_getI fX4_223 dX4_next_2 (mK_obj hm) ?_
  rw [hp]
  refine v_putI fX4_220 (.inl rfl) dX4_next_5 (mK_obj hm) ?_
  refine v_loc2 (by repeat' (first | with_reducible exact lsub_n | with_reducible refine lsub_c ?_ ?_ | with_reducible refine lk_hit ?_ | with_reducible refine lk_miss (by decide) ?_ ?_ | exact rfl)) (v_lp2 (fun (k : Nat) (hh : AH) => n - k) (fun (k : Nat) (hh : AH) => k ≤ n ∧ ne_ h hh ∧ hp_I hh 241 26 = nI k ∧ re_ (sp9_ T n) n k = ta_ T n p ∧ hp_I hh 241 30 = hp_I h 241 30) (fun (k : Nat) (hh : AH) => [(0, .ref 241)]) (fun (k : Nat) (hh : AH) => hh) ?_ p _ ⟨hpn, ne_f (ne_rf h) (by omega), by rw [hp_I_I, if_pos ⟨rfl, rfl⟩], rfl, by rw [hp_I_I, if_neg (by decide)]⟩)
  intro k hh hI IH
  obtain ⟨hI1, hI2, hI3, hI4, hI5⟩ := hI
  have hT1 := TP_ne hI2 hT0
  have hm : MI hh := ne_m hI2 hm0
  refine v_aload_n dX4_next_8 rfl rfl ?_
  refine v_aload_n dX4_next_9 rfl rfl ?_
  refine v_getI fX4_220 dX4_next_10 (mK_obj hm) ?_
  rw [hI3]
  refine v_pV mtX4_see q1936 q1938 qs75 rfl (by decide) dX4_next_13 (c_X4_see hm hT1 (k := k) (by omega)) (mK_obj hm) (by decide) ?_
  refine v_bipush (v := nI 10) dX4_next_16 (by decide) ?_
  refine v_icmp_eq (tgt := 34) dX4_next_18 (by decide) (fun b18 => ?_) (fun b18 => ?_)
  · skip
    rw [sv_eq hT8 (by decide)] at b18
    have hsp : sp9_ T n k := ⟨b18.1, Or.inl b18.2⟩
    refine v_aload_n dX4_next_34 rfl rfl ?_
    refine v_dup dX4_next_35 rfl ?_
    refine v_getI fX4_220 dX4_next_36 (mK_obj hm) ?_
    rw [hI3]
    refine v_iconst (v := 1) dX4_next_39 (by decide) ?_
    refine v_iadd dX4_next_40 ?_
    rw [nI_1]
    refine v_putI fX4_220 (.inl rfl) dX4_next_41 (mK_obj hm) ?_
    refine v_goto (tgt := 8) dX4_next_44 (by decide) ?_
    refine v_loc2 (by repeat' (first | with_reducible exact lsub_n | with_reducible refine lsub_c ?_ ?_ | with_reducible refine lk_hit ?_ | with_reducible refine lk_miss (by decide) ?_ ?_ | exact rfl)) (IH (k + 1) _ ⟨by have := hsp.1; omega, ne_f hI2 (by omega), by rw [hp_I_I, if_pos ⟨rfl, rfl⟩], by rw [← re_t hsp hsp.1]; exact hI4, by rw [hp_I_I, if_neg (by decide)]; exact hI5⟩ (by have := hsp.1; omega))
  · skip
    rw [sv_eq hT8 (by decide)] at b18
    refine v_aload_n dX4_next_21 rfl rfl ?_
    refine v_aload_n dX4_next_22 rfl rfl ?_
    refine v_getI fX4_220 dX4_next_23 (mK_obj hm) ?_
    rw [hI3]
    refine v_pV mtX4_see q1936 q1938 qs75 rfl (by decide) dX4_next_26 (c_X4_see hm hT1 (k := k) (by omega)) (mK_obj hm) (by decide) ?_
    refine v_bipush (v := nI 32) dX4_next_29 (by decide) ?_
    refine v_icmp_ne (tgt := 47) dX4_next_31 (by decide) (fun b31 => ?_) (fun b31 => ?_)
    · skip
      rw [sv_eq hT8 (by decide)] at b31
      have hns : ¬ sp9_ T n k := fun z => z.2.elim (fun u => b18 ⟨z.1, u⟩) (fun u => b31 ⟨z.1, u⟩)
      have hta : ta_ T n p = k := by rw [← hI4, re_f hns]
      have hne1 : ne_ h (up_I hh 241 27 (nI k)) := ne_f hI2 (by omega)
      have hT1b := TP_ne hne1 hT0
      have hm1 : MI (up_I hh 241 27 (nI k)) := ne_m hne1 hm0
      refine v_aload_n dX4_next_47 rfl rfl ?_
      refine v_aload_n dX4_next_48 rfl rfl ?_
      refine v_getI fX4_220 dX4_next_49 (mK_obj hm) ?_
      rw [hI3]
      refine v_putI fX4_223 (.inl rfl) dX4_next_52 (mK_obj hm) ?_
      refine v_aload_n dX4_next_55 rfl rfl ?_
      refine v_getI fX4_220 dX4_next_56 (mK_obj hm) ?_
      rw [show hp_I (up_I hh 241 27 (nI k)) 241 26 = nI k from hI3]
      refine v_aload_n dX4_next_59 rfl rfl ?_
      refine v_getI fX4_205 dX4_next_60 (mK_obj hm) ?_
      rw [show hp_I (up_I hh 241 27 (nI k)) 241 28 = nI n from hT1.1]
      refine v_icmp_lt (tgt := 75) dX4_next_63 (by decide) (fun b63 => ?_) (fun b63 => ?_)
      · skip
        rw [nI_ltI (by omega) (by omega)] at b63
        refine v_aload_n dX4_next_75 rfl rfl ?_
        refine v_aload_n dX4_next_76 rfl rfl ?_
        refine v_getI fX4_220 dX4_next_77 (mK_obj hm) ?_
        rw [show hp_I (up_I hh 241 27 (nI k)) 241 26 = nI k from hI3]
        refine v_pV mtX4_see q1936 q1938 qs75 rfl (by decide) dX4_next_80 (c_X4_see hm1 hT1b (k := k) (by omega)) (mK_obj hm) (by decide) ?_
        refine v_pS mtX4_isSmall q1940 q1941 dX4_next_83 (c_X4_isSmall _) (by decide) ?_
        refine v_if_eq (tgt := 193) dX4_next_86 (by decide) (fun b86 => ?_) (fun b86 => ?_)
        · skip
          rw [b2i_0, sv_sm hT8] at b86
          refine v_aload_n dX4_next_193 rfl rfl ?_
          refine v_aload_n dX4_next_194 rfl rfl ?_
          refine v_getI fX4_220 dX4_next_195 (mK_obj hm) ?_
          rw [show hp_I (up_I hh 241 27 (nI k)) 241 26 = nI k from hI3]
          refine v_pV mtX4_see q1936 q1938 qs75 rfl (by decide) dX4_next_198 (c_X4_see hm1 hT1b (k := k) (by omega)) (mK_obj hm) (by decide) ?_
          refine v_pS mtX4_isDigit q1952 q1953 dX4_next_201 (c_X4_isDigit _) (by decide) ?_
          refine v_if_eq (tgt := 302) dX4_next_204 (by decide) (fun b204 => ?_) (fun b204 => ?_)
          · skip
            rw [b2i_0, sv_dg hT8] at b204
            have hne2 : ne_ h (up_I (up_I hh 241 27 (nI k)) 241 27 (nI (k + 1))) := ne_f hne1 (by omega)
            have hT2 := TP_ne hne2 hT0
            have hm2 := ne_m hne2 hm0
            have hte : te_ T n k = k + 1 := by unfold te_; rw [cf_f b86, cf_f b204, cf_t b63]
            have hfin : ∀ kd, kd = tk9_ T n (ta_ T n p) → NX_ T n p h (up_I (up_I (up_I hh 241 27 (nI k)) 241 27 (nI (k + 1))) 241 29 (nI kd)) := fun kd hk => NX_mk (ne_f hne1 (by omega)) (by rw [hta, hp_I_I, if_neg (by decide), hp_I_I, if_neg (by decide)]; exact hI3) (by rw [hta, hte, hp_I_I, if_pos ⟨rfl, rfl⟩]) (fun z => absurd (hta ▸ z) b204) (fun _ => by rw [hp_I_I, if_neg (by decide), hp_I_I, if_neg (by decide)]; exact hI5) (fun z => absurd (hta ▸ z) b86) hk
            refine v_aload_n dX4_next_302 rfl rfl ?_
            refine v_dup dX4_next_303 rfl ?_
            refine v_getI fX4_223 dX4_next_304 (mK_obj hm) ?_
            rw [show hp_I (up_I hh 241 27 (nI k)) 241 27 = nI k from by rw [hp_I_I, if_pos ⟨rfl, rfl⟩]]
            refine v_iconst (v := 1) dX4_next_307 (by decide) ?_
            refine v_iadd dX4_next_308 ?_
            rw [nI_1]
            refine v_putI fX4_223 (.inl rfl) dX4_next_309 (mK_obj hm) ?_
            refine v_aload_n dX4_next_312 rfl rfl ?_
            refine v_aload_n dX4_next_313 rfl rfl ?_
            refine v_aload_n dX4_next_314 rfl rfl ?_
            refine v_getI fX4_220 dX4_next_315 (mK_obj hm) ?_
            rw [show hp_I (up_I (up_I hh 241 27 (nI k)) 241 27 (nI (k + 1))) 241 26 = nI k from hI3]
            refine v_pV mtX4_see q1936 q1938 qs75 rfl (by decide) dX4_next_318 (c_X4_see hm2 hT2 (k := k) (by omega)) (mK_obj hm) (by decide) ?_
            refine v_bipush (v := nI 59) dX4_next_321 (by decide) ?_
            refine v_icmp_ne (tgt := 331) dX4_next_323 (by decide) (fun b323 => ?_) (fun b323 => ?_)
            · skip
              rw [sv_eq hT8 (by decide)] at b323
              have hkd : 16 = tk9_ T n (ta_ T n p) := by unfold tk9_; rw [hta, cf_f (by omega), cf_f b86, cf_f b204, cf_f (fun z => b323 ⟨b63, z⟩)]
              refine v_bipush (v := nI 16) dX4_next_331 (by decide) ?_
              refine v_putI fX4_229 (.inl rfl) dX4_next_333 (mK_obj hm) ?_
              exact v_retv dX4_next_336 trivial (hQ _ (hfin _ hkd))
            · skip
              rw [sv_eq hT8 (by decide)] at b323
              have hkd : 14 = tk9_ T n (ta_ T n p) := by unfold tk9_; rw [hta, cf_f (by omega), cf_f b86, cf_f b204, cf_t b323.2]
              refine v_bipush (v := nI 14) dX4_next_326 (by decide) ?_
              refine v_goto (tgt := 333) dX4_next_328 (by decide) ?_
              refine v_putI fX4_229 (.inl rfl) dX4_next_333 (mK_obj hm) ?_
              exact v_retv dX4_next_336 trivial (hQ _ (hfin _ hkd))
          · skip
            rw [b2i_n0, sv_dg hT8] at b204
            refine v_aload_n dX4_next_207 rfl rfl ?_
            refine v_iconst (v := 0) dX4_next_208 (by decide) ?_
            refine v_putI fX4_249 (.inl rfl) dX4_next_209 (mK_obj hm) ?_
            refine v_loc2 (by repeat' (first | with_reducible exact lsub_n | with_reducible refine lsub_c ?_ ?_ | with_reducible refine lk_hit ?_ | with_reducible refine lk_miss (by decide) ?_ ?_ | exact rfl)) (v_lp2 (fun (c : Nat) (hd : AH) => n - (k + c)) (fun (c : Nat) (hd : AH) => ne_ h hd ∧ hp_I hd 241 26 = nI k ∧ hp_I hd 241 27 = nI (k + c) ∧ re_ (dg9_ T n) n (k + c) = re_ (dg9_ T n) n k ∧ (∀ j, j < c → dg9_ T n (k + j)) ∧ hp_I hd 241 30 = nI (nu_ T k c) ∧ k + c ≤ n) (fun (c : Nat) (hd : AH) => [(0, .ref 241)]) (fun (c : Nat) (hd : AH) => hd) ?_ 0 _ ⟨ne_f hne1 (by omega), by rw [hp_I_I, if_neg (by decide)]; exact hI3, by rw [hp_I_I, if_neg (by decide), hp_I_I, if_pos ⟨rfl, rfl⟩]; rfl, rfl, fun j hj => absurd hj (Nat.not_lt_zero j), by rw [hp_I_I, if_pos ⟨rfl, rfl⟩]; rfl, hI1⟩)
            intro c hd hJ IHc
            obtain ⟨hd1, hd26, hd27, hd4, hd7, hd6, hd8⟩ := hJ
            have hTd := TP_ne hd1 hT0
            have hm : MI hd := ne_m hd1 hm0
            refine v_aload_n dX4_next_212 rfl rfl ?_
            refine v_aload_n dX4_next_213 rfl rfl ?_
            refine v_getI fX4_223 dX4_next_214 (mK_obj hm) ?_
            rw [hd27]
            refine v_pV mtX4_see q1936 q1938 qs75 rfl (by decide) dX4_next_217 (c_X4_see hm hTd (k := k + c) (by omega)) (mK_obj hm) (by decide) ?_
            refine v_pS mtX4_isDigit q1952 q1953 dX4_next_220 (c_X4_isDigit _) (by decide) ?_
            refine v_if_eq (tgt := 275) dX4_next_223 (by decide) (fun b223 => ?_) (fun b223 => ?_)
            · skip
              rw [b2i_0, sv_dg hT8] at b223
              have hte : te_ T n k = k + c := by unfold te_; rw [cf_f b86, cf_t b204, ← hd4, re_f b223]
              have hfin : ∀ kd, kd = tk9_ T n (ta_ T n p) → NX_ T n p h (up_I (hd) 241 29 (nI kd)) := fun kd hk => NX_mk hd1 (by rw [hta]; exact hd26) (by rw [hta, hte]; exact hd27) (fun _ => by rw [hta, hte, Nat.add_sub_cancel_left]; exact hd6) (fun z => absurd b204 (hta ▸ z)) (fun z => absurd (hta ▸ z) b86) hk
              refine v_aload_n dX4_next_275 rfl rfl ?_
              refine v_aload_n dX4_next_276 rfl rfl ?_
              refine v_getI fX4_223 dX4_next_277 (mK_obj hm) ?_
              rw [hd27]
              refine v_aload_n dX4_next_280 rfl rfl ?_
              refine v_getI fX4_220 dX4_next_281 (mK_obj hm) ?_
              rw [hd26]
              refine v_isub dX4_next_284 ?_
              rw [show nI (k + c) - nI k = nI c from by rw [ix_sub rfl rfl (by omega)]; congr 1; omega]
              refine v_iconst (v := nI 3) dX4_next_285 (by decide) ?_
              refine v_icmp_le (tgt := 294) dX4_next_286 (by decide) (fun b286 => ?_) (fun b286 => ?_)
              · skip
                rw [nI_leI (by omega) (by omega)] at b286
                have hkd : 13 = tk9_ T n (ta_ T n p) := by unfold tk9_; rw [hta, cf_f (by omega), cf_f b86, cf_t b204, hte, cf_f (by omega)]
                refine v_bipush (v := nI 13) dX4_next_294 (by decide) ?_
                refine v_putI fX4_229 (.inl rfl) dX4_next_296 (mK_obj hm) ?_
                refine v_goto (tgt := 336) dX4_next_299 (by decide) ?_
                exact v_retv dX4_next_336 trivial (hQ _ (hfin _ hkd))
              · skip
                rw [nI_leI (by omega) (by omega)] at b286
                have hkd : 16 = tk9_ T n (ta_ T n p) := by unfold tk9_; rw [hta, cf_f (by omega), cf_f b86, cf_t b204, hte, cf_t (by omega)]
                refine v_bipush (v := nI 16) dX4_next_289 (by decide) ?_
                refine v_goto (tgt := 296) dX4_next_291 (by decide) ?_
                refine v_putI fX4_229 (.inl rfl) dX4_next_296 (mK_obj hm) ?_
                refine v_goto (tgt := 336) dX4_next_299 (by decide) ?_
                exact v_retv dX4_next_336 trivial (hQ _ (hfin _ hkd))
            · skip
              rw [b2i_n0, sv_dg hT8] at b223
              have hnl := @nu_lt T n k c hd7
              have hnl3 : 10 ^ (min c 3) ≤ 10 ^ 3 := Nat.pow_le_pow_right (by decide) (by omega)
              refine v_aload_n dX4_next_226 rfl rfl ?_
              refine v_getI fX4_223 dX4_next_227 (mK_obj hm) ?_
              rw [hd27]
              refine v_aload_n dX4_next_230 rfl rfl ?_
              refine v_getI fX4_220 dX4_next_231 (mK_obj hm) ?_
              rw [hd26]
              refine v_isub dX4_next_234 ?_
              rw [show nI (k + c) - nI k = nI c from by rw [ix_sub rfl rfl (by omega)]; congr 1; omega]
              refine v_iconst (v := nI 3) dX4_next_235 (by decide) ?_
              refine v_icmp_ge (tgt := 262) dX4_next_236 (by decide) (fun b236 => ?_) (fun b236 => ?_)
              · skip
                rw [nI_leI (by omega) (by omega)] at b236
                have hnu : nu_ T k (c + 1) = nu_ T k c := by rw [nu_s, if_neg (by omega)]
                refine v_aload_n dX4_next_262 rfl rfl ?_
                refine v_dup dX4_next_263 rfl ?_
                refine v_getI fX4_223 dX4_next_264 (mK_obj hm) ?_
                first | rw [show hp_I (up_I hd 241 30 (nI (10 * nu_ T k c + T (k + c) - 48))) 241 27 = nI (k + c) from hd27] | rw [hd27]
                refine v_iconst (v := 1) dX4_next_267 (by decide) ?_
                refine v_iadd dX4_next_268 ?_
                rw [nI_1]
                refine v_putI fX4_223 (.inl rfl) dX4_next_269 (mK_obj hm) ?_
                refine v_goto (tgt := 212) dX4_next_272 (by decide) ?_
                have hd9 : ∀ j, j < c + 1 → dg9_ T n (k + j) := fun j hj => (Nat.lt_succ_iff_lt_or_eq.mp hj).elim (hd7 j) (fun u => by rw [u]; exact b223)
                first | refine v_loc2 (by repeat' (first | with_reducible exact lsub_n | with_reducible refine lsub_c ?_ ?_ | with_reducible refine lk_hit ?_ | with_reducible refine lk_miss (by decide) ?_ ?_ | exact rfl)) (IHc (c + 1) _ ⟨ne_f (ne_f hd1 (by omega)) (by omega), by rw [hp_I_I, if_neg (by decide), hp_I_I, if_neg (by decide)]; exact hd26, by rw [hp_I_I, if_pos ⟨rfl, rfl⟩]; rfl, by rw [show k + (c + 1) = k + c + 1 from rfl, ← re_t b223 b223.1]; exact hd4, hd9, by rw [hp_I_I, if_neg (by decide), hp_I_I, if_pos ⟨rfl, rfl⟩, hnu], by have := b223.1; omega⟩ (by have := b223.1; omega)) | refine v_loc2 (by repeat' (first | with_reducible exact lsub_n | with_reducible refine lsub_c ?_ ?_ | with_reducible refine lk_hit ?_ | with_reducible refine lk_miss (by decide) ?_ ?_ | exact rfl)) (IHc (c + 1) _ ⟨ne_f hd1 (by omega), by rw [hp_I_I, if_neg (by decide)]; exact hd26, by rw [hp_I_I, if_pos ⟨rfl, rfl⟩]; rfl, by rw [show k + (c + 1) = k + c + 1 from rfl, ← re_t b223 b223.1]; exact hd4, hd9, by rw [hp_I_I, if_neg (by decide), hnu]; exact hd6, by have := b223.1; omega⟩ (by have := b223.1; omega))
              · skip
                rw [nI_leI (by omega) (by omega)] at b236
                have hnu : nu_ T k (c + 1) = 10 * nu_ T k c + T (k + c) - 48 := by rw [nu_s, if_pos (by omega)]
                refine v_aload_n dX4_next_239 rfl rfl ?_
                refine v_bipush (v := 10) dX4_next_240 (by decide) ?_
                refine v_aload_n dX4_next_242 rfl rfl ?_
                refine v_getI fX4_249 dX4_next_243 (mK_obj hm) ?_
                rw [hd6]
                refine v_imul dX4_next_246 ?_
                refine v_aload_n dX4_next_247 rfl rfl ?_
                refine v_aload_n dX4_next_248 rfl rfl ?_
                refine v_getI fX4_223 dX4_next_249 (mK_obj hm) ?_
                rw [hd27]
                refine v_pV mtX4_see q1936 q1938 qs75 rfl (by decide) dX4_next_252 (c_X4_see hm hTd (k := k + c) (by omega)) (mK_obj hm) (by decide) ?_
                rw [sv_t b223.1]
                refine v_iadd dX4_next_255 ?_
                refine v_bipush (v := 48) dX4_next_256 (by decide) ?_
                refine v_isub dX4_next_258 ?_
                rw [show (10 : Int32) * nI (nu_ T k c) = nI (10 * nu_ T k c) from pk_mul 10 _, nI_add, show (nI (10 * nu_ T k c + T (k + c)) - 48 : Int32) = nI (10 * nu_ T k c + T (k + c) - 48) from ix_sub rfl rfl (by have := b223.2; omega)]
                refine v_putI fX4_249 (.inl rfl) dX4_next_259 (mK_obj hm) ?_
                refine v_aload_n dX4_next_262 rfl rfl ?_
                refine v_dup dX4_next_263 rfl ?_
                refine v_getI fX4_223 dX4_next_264 (mK_obj hm) ?_
                first | rw [show hp_I (up_I hd 241 30 (nI (10 * nu_ T k c + T (k + c) - 48))) 241 27 = nI (k + c) from hd27] | rw [hd27]
                refine v_iconst (v := 1) dX4_next_267 (by decide) ?_
                refine v_iadd dX4_next_268 ?_
                rw [nI_1]
                refine v_putI fX4_223 (.inl rfl) dX4_next_269 (mK_obj hm) ?_
                refine v_goto (tgt := 212) dX4_next_272 (by decide) ?_
                have hd9 : ∀ j, j < c + 1 → dg9_ T n (k + j) := fun j hj => (Nat.lt_succ_iff_lt_or_eq.mp hj).elim (hd7 j) (fun u => by rw [u]; exact b223)
                first | refine v_loc2 (by repeat' (first | with_reducible exact lsub_n | with_reducible refine lsub_c ?_ ?_ | with_reducible refine lk_hit ?_ | with_reducible refine lk_miss (by decide) ?_ ?_ | exact rfl)) (IHc (c + 1) _ ⟨ne_f (ne_f hd1 (by omega)) (by omega), by rw [hp_I_I, if_neg (by decide), hp_I_I, if_neg (by decide)]; exact hd26, by rw [hp_I_I, if_pos ⟨rfl, rfl⟩]; rfl, by rw [show k + (c + 1) = k + c + 1 from rfl, ← re_t b223 b223.1]; exact hd4, hd9, by rw [hp_I_I, if_neg (by decide), hp_I_I, if_pos ⟨rfl, rfl⟩, hnu], by have := b223.1; omega⟩ (by have := b223.1; omega)) | refine v_loc2 (by repeat' (first | with_reducible exact lsub_n | with_reducible refine lsub_c ?_ ?_ | with_reducible refine lk_hit ?_ | with_reducible refine lk_miss (by decide) ?_ ?_ | exact rfl)) (IHc (c + 1) _ ⟨ne_f hd1 (by omega), by rw [hp_I_I, if_neg (by decide)]; exact hd26, by rw [hp_I_I, if_pos ⟨rfl, rfl⟩]; rfl, by rw [show k + (c + 1) = k + c + 1 from rfl, ← re_t b223 b223.1]; exact hd4, hd9, by rw [hp_I_I, if_neg (by decide), hnu]; exact hd6, by have := b223.1; omega⟩ (by have := b223.1; omega))
        · skip
          rw [b2i_n0, sv_sm hT8] at b86
          refine v_aload_n dX4_next_89 rfl rfl ?_
          refine v_lconst (v := (0 : Int32).toInt64) dX4_next_90 (by decide) ?_
          refine v_putL fX4_235 (.inl rfl) dX4_next_91 (mK_obj hm) ?_
          refine v_loc2 (by repeat' (first | with_reducible exact lsub_n | with_reducible refine lsub_c ?_ ?_ | with_reducible refine lk_hit ?_ | with_reducible refine lk_miss (by decide) ?_ ?_ | exact rfl)) (v_lp2 (fun (c : Nat) (hd : AH) => n - (k + c)) (fun (c : Nat) (hd : AH) => ne_ h hd ∧ hp_I hd 241 26 = nI k ∧ hp_I hd 241 27 = nI (k + c) ∧ re_ (sm9_ T n) n (k + c) = re_ (sm9_ T n) n k ∧ hp_I hd 241 30 = hp_I h 241 30 ∧ hp_L hd 241 33 = na_ T k c ∧ k + c ≤ n) (fun (c : Nat) (hd : AH) => [(0, .ref 241)]) (fun (c : Nat) (hd : AH) => hd) ?_ 0 _ ⟨ne_L hne1, hI3, by show hp_I (up_I hh 241 27 (nI k)) 241 27 = _; rw [hp_I_I, if_pos ⟨rfl, rfl⟩]; rfl, rfl, by show hp_I (up_I hh 241 27 (nI k)) 241 30 = _; rw [hp_I_I, if_neg (by decide)]; exact hI5, by rw [hp_L_L, if_pos ⟨rfl, rfl⟩]; rfl, hI1⟩)
          intro c hd hJ IHc
          obtain ⟨hd1, hd26, hd27, hd4, hd5, hd6, hd8⟩ := hJ
          have hTd := TP_ne hd1 hT0
          have hm : MI hd := ne_m hd1 hm0
          refine v_aload_n dX4_next_94 rfl rfl ?_
          refine v_aload_n dX4_next_95 rfl rfl ?_
          refine v_getI fX4_223 dX4_next_96 (mK_obj hm) ?_
          rw [hd27]
          refine v_pV mtX4_see q1936 q1938 qs75 rfl (by decide) dX4_next_99 (c_X4_see hm hTd (k := k + c) (by omega)) (mK_obj hm) (by decide) ?_
          refine v_pS mtX4_isSmall q1940 q1941 dX4_next_102 (c_X4_isSmall _) (by decide) ?_
          refine v_if_eq (tgt := 163) dX4_next_105 (by decide) (fun b105 => ?_) (fun b105 => ?_)
          · skip
            rw [b2i_0, sv_sm hT8] at b105
            have hte : te_ T n k = k + c := by unfold te_; rw [cf_t b86, ← hd4, re_f b105]
            have hfin : ∀ kd, kd = tk9_ T n (ta_ T n p) → NX_ T n p h (up_I (hd) 241 29 (nI kd)) := fun kd hk => NX_mk hd1 (by rw [hta]; exact hd26) (by rw [hta, hte]; exact hd27) (fun z => by rw [hta] at z; have := z.2; have := b86.2; omega) (fun _ => hd5) (fun _ => by rw [hta, hte, Nat.add_sub_cancel_left]; exact hd6) hk
            refine v_aload_n dX4_next_163 rfl rfl ?_
            refine v_aload_n dX4_next_164 rfl rfl ?_
            refine v_getI fX4_223 dX4_next_165 (mK_obj hm) ?_
            rw [hd27]
            refine v_aload_n dX4_next_168 rfl rfl ?_
            refine v_getI fX4_220 dX4_next_169 (mK_obj hm) ?_
            rw [hd26]
            refine v_isub dX4_next_172 ?_
            rw [show nI (k + c) - nI k = nI c from by rw [ix_sub rfl rfl (by omega)]; congr 1; omega]
            refine v_bipush (v := nI 8) dX4_next_173 (by decide) ?_
            refine v_icmp_le (tgt := 183) dX4_next_175 (by decide) (fun b175 => ?_) (fun b175 => ?_)
            · skip
              rw [nI_leI (by omega) (by omega)] at b175
              have hkd : ky_ T k (k + c) = tk9_ T n (ta_ T n p) := by unfold tk9_; rw [hta, cf_f (by omega), cf_t b86, hte, cf_f (by omega)]
              refine v_aload_n dX4_next_183 rfl rfl ?_
              refine v_pV mtX4_keyAt q1945 q1947 qs76 rfl (by decide) dX4_next_184 (c_X4_keyAt (a := k) (e := k + c) hG hm hTd hd26 hd27 (by omega) (by omega)) (mK_obj hm) (by decide) ?_
              refine v_putI fX4_229 (.inl rfl) dX4_next_187 (mK_obj hm) ?_
              refine v_goto (tgt := 336) dX4_next_190 (by decide) ?_
              exact v_retv dX4_next_336 trivial (hQ _ (hfin _ hkd))
            · skip
              rw [nI_leI (by omega) (by omega)] at b175
              have hkd : 16 = tk9_ T n (ta_ T n p) := by unfold tk9_; rw [hta, cf_f (by omega), cf_t b86, hte, cf_t (by omega)]
              refine v_bipush (v := nI 16) dX4_next_178 (by decide) ?_
              refine v_goto (tgt := 187) dX4_next_180 (by decide) ?_
              refine v_putI fX4_229 (.inl rfl) dX4_next_187 (mK_obj hm) ?_
              refine v_goto (tgt := 336) dX4_next_190 (by decide) ?_
              exact v_retv dX4_next_336 trivial (hQ _ (hfin _ hkd))
          · skip
            rw [b2i_n0, sv_sm hT8] at b105
            refine v_aload_n dX4_next_108 rfl rfl ?_
            refine v_getI fX4_223 dX4_next_109 (mK_obj hm) ?_
            rw [hd27]
            refine v_aload_n dX4_next_112 rfl rfl ?_
            refine v_getI fX4_220 dX4_next_113 (mK_obj hm) ?_
            rw [hd26]
            refine v_isub dX4_next_116 ?_
            rw [show nI (k + c) - nI k = nI c from by rw [ix_sub rfl rfl (by omega)]; congr 1; omega]
            refine v_bipush (v := nI 8) dX4_next_117 (by decide) ?_
            refine v_icmp_ge (tgt := 150) dX4_next_119 (by decide) (fun b119 => ?_) (fun b119 => ?_)
            · skip
              rw [nI_leI (by omega) (by omega)] at b119
              have hna : na_ T k (c + 1) = na_ T k c := by rw [na_s, if_neg (by omega)]
              refine v_aload_n dX4_next_150 rfl rfl ?_
              refine v_dup dX4_next_151 rfl ?_
              refine v_getI fX4_223 dX4_next_152 (mK_obj hm) ?_
              first | rw [show hp_I (up_L hd 241 33 ((27 : Int32).toInt64 * na_ T k c + (nI (T (k + c))).toInt64 - (97 : Int32).toInt64 + (1 : Int32).toInt64)) 241 27 = nI (k + c) from hd27] | rw [hd27]
              refine v_iconst (v := 1) dX4_next_155 (by decide) ?_
              refine v_iadd dX4_next_156 ?_
              rw [nI_1]
              refine v_putI fX4_223 (.inl rfl) dX4_next_157 (mK_obj hm) ?_
              refine v_goto (tgt := 94) dX4_next_160 (by decide) ?_
              first | refine v_loc2 (by repeat' (first | with_reducible exact lsub_n | with_reducible refine lsub_c ?_ ?_ | with_reducible refine lk_hit ?_ | with_reducible refine lk_miss (by decide) ?_ ?_ | exact rfl)) (IHc (c + 1) _ ⟨ne_f (ne_L hd1) (by omega), by rw [hp_I_I, if_neg (by decide)]; exact hd26, by rw [hp_I_I, if_pos ⟨rfl, rfl⟩]; rfl, by rw [show k + (c + 1) = k + c + 1 from rfl, ← re_t b105 b105.1]; exact hd4, by rw [hp_I_I, if_neg (by decide)]; exact hd5, by rw [hna]; show hp_L (up_L hd 241 33 _) 241 33 = _; rw [hp_L_L, if_pos ⟨rfl, rfl⟩], by have := b105.1; omega⟩ (by have := b105.1; omega)) | refine v_loc2 (by repeat' (first | with_reducible exact lsub_n | with_reducible refine lsub_c ?_ ?_ | with_reducible refine lk_hit ?_ | with_reducible refine lk_miss (by decide) ?_ ?_ | exact rfl)) (IHc (c + 1) _ ⟨ne_f hd1 (by omega), by rw [hp_I_I, if_neg (by decide)]; exact hd26, by rw [hp_I_I, if_pos ⟨rfl, rfl⟩]; rfl, by rw [show k + (c + 1) = k + c + 1 from rfl, ← re_t b105 b105.1]; exact hd4, by rw [hp_I_I, if_neg (by decide)]; exact hd5, by rw [hna]; exact hd6, by have := b105.1; omega⟩ (by have := b105.1; omega))
            · skip
              rw [nI_leI (by omega) (by omega)] at b119
              have hna : na_ T k (c + 1) = (27 : Int32).toInt64 * na_ T k c + (nI (T (k + c))).toInt64 - (97 : Int32).toInt64 + (1 : Int32).toInt64 := by rw [na_s, if_pos (by omega)]
              refine v_aload_n dX4_next_122 rfl rfl ?_
              refine v_ldc2 (v := (27 : Int32).toInt64) q1943 dX4_next_123 (by decide) ?_
              refine v_aload_n dX4_next_126 rfl rfl ?_
              refine v_getL fX4_235 dX4_next_127 (mK_obj hm) ?_
              rw [hd6]
              refine v_lmul dX4_next_130 ?_
              refine v_aload_n dX4_next_131 rfl rfl ?_
              refine v_aload_n dX4_next_132 rfl rfl ?_
              refine v_getI fX4_223 dX4_next_133 (mK_obj hm) ?_
              rw [hd27]
              refine v_pV mtX4_see q1936 q1938 qs75 rfl (by decide) dX4_next_136 (c_X4_see hm hTd (k := k + c) (by omega)) (mK_obj hm) (by decide) ?_
              rw [sv_t b105.1]
              refine v_i2l dX4_next_139 ?_
              refine v_ladd dX4_next_140 ?_
              refine v_ldc2 (v := (97 : Int32).toInt64) q1944 dX4_next_141 (by decide) ?_
              refine v_lsub dX4_next_144 ?_
              refine v_lconst (v := (1 : Int32).toInt64) dX4_next_145 (by decide) ?_
              refine v_ladd dX4_next_146 ?_
              refine v_putL fX4_235 (.inl rfl) dX4_next_147 (mK_obj hm) ?_
              refine v_aload_n dX4_next_150 rfl rfl ?_
              refine v_dup dX4_next_151 rfl ?_
              refine v_getI fX4_223 dX4_next_152 (mK_obj hm) ?_
              first | rw [show hp_I (up_L hd 241 33 ((27 : Int32).toInt64 * na_ T k c + (nI (T (k + c))).toInt64 - (97 : Int32).toInt64 + (1 : Int32).toInt64)) 241 27 = nI (k + c) from hd27] | rw [hd27]
              refine v_iconst (v := 1) dX4_next_155 (by decide) ?_
              refine v_iadd dX4_next_156 ?_
              rw [nI_1]
              refine v_putI fX4_223 (.inl rfl) dX4_next_157 (mK_obj hm) ?_
              refine v_goto (tgt := 94) dX4_next_160 (by decide) ?_
              first | refine v_loc2 (by repeat' (first | with_reducible exact lsub_n | with_reducible refine lsub_c ?_ ?_ | with_reducible refine lk_hit ?_ | with_reducible refine lk_miss (by decide) ?_ ?_ | exact rfl)) (IHc (c + 1) _ ⟨ne_f (ne_L hd1) (by omega), by rw [hp_I_I, if_neg (by decide)]; exact hd26, by rw [hp_I_I, if_pos ⟨rfl, rfl⟩]; rfl, by rw [show k + (c + 1) = k + c + 1 from rfl, ← re_t b105 b105.1]; exact hd4, by rw [hp_I_I, if_neg (by decide)]; exact hd5, by rw [hna]; show hp_L (up_L hd 241 33 _) 241 33 = _; rw [hp_L_L, if_pos ⟨rfl, rfl⟩], by have := b105.1; omega⟩ (by have := b105.1; omega)) | refine v_loc2 (by repeat' (first | with_reducible exact lsub_n | with_reducible refine lsub_c ?_ ?_ | with_reducible refine lk_hit ?_ | with_reducible refine lk_miss (by decide) ?_ ?_ | exact rfl)) (IHc (c + 1) _ ⟨ne_f hd1 (by omega), by rw [hp_I_I, if_neg (by decide)]; exact hd26, by rw [hp_I_I, if_pos ⟨rfl, rfl⟩]; rfl, by rw [show k + (c + 1) = k + c + 1 from rfl, ← re_t b105 b105.1]; exact hd4, by rw [hp_I_I, if_neg (by decide)]; exact hd5, by rw [hna]; exact hd6, by have := b105.1; omega⟩ (by have := b105.1; omega))
      · skip
        rw [nI_ltI (by omega) (by omega)] at b63
        have hnsm : ¬ sm9_ T n k := fun z => b63 z.1
        have hndg : ¬ dg9_ T n k := fun z => b63 z.1
        have hte : te_ T n k = k := by unfold te_; rw [cf_f hnsm, cf_f hndg, cf_f b63]
        have hkd : 15 = tk9_ T n (ta_ T n p) := by unfold tk9_; rw [hta, cf_t (by omega)]
        have hfin : ∀ kd, kd = tk9_ T n (ta_ T n p) → NX_ T n p h (up_I ((up_I hh 241 27 (nI k))) 241 29 (nI kd)) := fun kd hk => NX_mk hne1 (by rw [hta]; exact hI3) (by rw [hta, hte, hp_I_I, if_pos ⟨rfl, rfl⟩]) (fun z => absurd (hta ▸ z) hndg) (fun _ => by rw [hp_I_I, if_neg (by decide)]; exact hI5) (fun z => absurd (hta ▸ z) hnsm) hk
        refine v_aload_n dX4_next_66 rfl rfl ?_
        refine v_bipush (v := nI 15) dX4_next_67 (by decide) ?_
        refine v_putI fX4_229 (.inl rfl) dX4_next_69 (mK_obj hm) ?_
        refine v_goto (tgt := 336) dX4_next_72 (by decide) ?_
        exact v_retv dX4_next_336 trivial (hQ _ (hfin _ hkd))
    · skip
      rw [sv_eq hT8 (by decide)] at b31
      have hsp : sp9_ T n k := ⟨b31.1, Or.inr b31.2⟩
      refine v_aload_n dX4_next_34 rfl rfl ?_
      refine v_dup dX4_next_35 rfl ?_
      refine v_getI fX4_220 dX4_next_36 (mK_obj hm) ?_
      rw [hI3]
      refine v_iconst (v := 1) dX4_next_39 (by decide) ?_
      refine v_iadd dX4_next_40 ?_
      rw [nI_1]
      refine v_putI fX4_220 (.inl rfl) dX4_next_41 (mK_obj hm) ?_
      refine v_goto (tgt := 8) dX4_next_44 (by decide) ?_
      refine v_loc2 (by repeat' (first | with_reducible exact lsub_n | with_reducible refine lsub_c ?_ ?_ | with_reducible refine lk_hit ?_ | with_reducible refine lk_miss (by decide) ?_ ?_ | exact rfl)) (IH (k + 1) _ ⟨by have := hsp.1; omega, ne_f hI2 (by omega), by rw [hp_I_I, if_pos ⟨rfl, rfl⟩], by rw [← re_t hsp hsp.1]; exact hI4, by rw [hp_I_I, if_neg (by decide)]; exact hI5⟩ (by have := hsp.1; omega))

