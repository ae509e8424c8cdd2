set_option maxRecDepth 100000
def rp_ok (T : Nat → Int32) (nR sN : Nat) : Prop := nR ≤ 30 ∧ ∀ r, r < nR → in_ (T (7 * r)) sN ∧ ((T (7 * r + 1) = 0 ∧ in_ (T (7 * r + 2)) 8 ∧ in_ (T (7 * r + 3)) (sN + 1)) ∨ (T (7 * r + 1) = 1 ∧ in_ (T (7 * r + 2)) (2 * sN))) ∧ (∃ a b, a ≤ b ∧ b < 100 ∧ T (7 * r + 4) = nI a ∧ T (7 * r + 5) = nI b) ∧ in_ (T (7 * r + 6)) 31
def RP_ (h : AH) (nR sN : Nat) : Prop := hp_I h 241 42 = nI nR ∧ rp_ok (hp_I h 259) nR sN
theorem RP_th {h : AH} {nR sN : Nat} (h1 : RP_ h nR sN) : RP_ (th_ h) nR sN := h1
theorem RP_fp {h h1 : AH} {nR sN : Nat} (a : fp_ h h1) (b : RP_ h nR sN) : RP_ h1 nR sN := by
  unfold RP_
  rw [fp_I a 42 (by decide), fp_A a 259 (by decide) (by decide)]
  exact b
def su_ (A T : Nat → Int32) (m r : Nat) (sl : Int32) : Prop := A (4680 + 5 * m + 1) = T (7 * r + 2) ∧ A (4680 + 5 * m + 2) = T (7 * r + 3) ∧ (T (7 * r + 4) - sl ≤ A (4680 + 5 * m + 3) ∧ A (4680 + 5 * m + 3) ≤ T (7 * r + 5) + sl)
def ha_ (A : Nat → Int32) (b p : Nat) (a : Int32) (t : Nat) : Prop := A (b + 200 * p + t) = a ∨ A (b + 100 * (2 * p + 1) + t) = a
/-- hands a way takes, of its first n steps -/
def tk_ (K M : Nat → Int32) (w : Nat) : Nat → Int32
  | 0 => 0
  | n + 1 => tk_ K M w n + (if K (8 * w + n) = 1 ∨ K (8 * w + n) = 2 then M (8 * w + n) else 0)
theorem tk_s (K M : Nat → Int32) (w n : Nat) : tk_ K M w (n + 1) = tk_ K M w n + (if K (8 * w + n) = 1 ∨ K (8 * w + n) = 2 then M (8 * w + n) else 0) := rfl
def WY_ (h : AH) (nW : Nat) : Prop := hp_I h 241 15 = nI nW ∧ nW ≤ 8 ∧ ∀ w, w < nW → in_ (hp_I h 254 w) 9
noncomputable def sp_way (h : AH) (a x : Int32) : Int32 × AH := (cf_ (0 ≤ a ∧ a < hp_I h 241 15) (cf_ (x = 0) (hp_I h 254 a.toNatClampNeg) (cf_ (x = 1) (tk_ (hp_I h 255) (hp_I h 257) a.toNatClampNeg (hp_I h 254 a.toNatClampNeg).toNatClampNeg) (-1))) (-1), th_ h)
def up_rep (h : AH) (r : Nat) (p k a b c d e : Int32) : AH := up_I (up_I (up_I (up_I (up_I (up_I (up_I (up_I h 259 (7 * r) p) 259 (7 * r + 1) k) 259 (7 * r + 2) a) 259 (7 * r + 3) b) 259 (7 * r + 4) c) 259 (7 * r + 5) d) 259 (7 * r + 6) e) 241 42 (nI (r + 1))
noncomputable def sp_report (h : AH) (p k a b c d e : Int32) : Int32 × AH :=
  cf_ (¬ ((0 ≤ p ∧ p < hp_I h 241 4) ∧ ((k = 0 ∧ (0 ≤ a ∧ a < hp_I h 243 4881) ∧ (0 ≤ b ∧ b ≤ hp_I h 241 4)) ∨ (k = 1 ∧ (0 ≤ a ∧ a < 2 * hp_I h 241 4) ∧ ¬ a / 2 = p)))) (-1, rf_ (th_ h) 1)
  (cf_ (¬ ((0 ≤ c ∧ c ≤ d ∧ d ≤ 99) ∧ (0 ≤ e ∧ e ≤ 30))) (-1, rf_ (th_ h) 2) (cf_ (hp_I h 241 42 = 30) (-1, rf_ (th_ h) 3) (hp_I h 241 42, up_rep (th_ h) (hp_I h 241 42).toNatClampNeg p k a b c d e)))
def up_con (h : AH) (n : Nat) (k a v c d e : Int32) : AH := up_I (up_I (up_I (up_I (up_I (up_I (up_I h 263 n k) 264 n a) 265 n v) 266 n c) 267 n d) 268 n e) 241 48 (nI (n + 1))
noncomputable def sp_control (h : AH) (k a v c d e : Int32) : Int32 × AH :=
  cf_ (¬ ((k = 0 ∧ (0 ≤ a ∧ a < 2 * hp_I h 241 4)) ∨ k = 1 ∨ (k = 2 ∧ (0 ≤ a ∧ a < hp_I h 241 4) ∧ (0 ≤ v ∧ v ≤ hp_I h 241 4)))) (-1, rf_ (th_ h) 1)
  (cf_ (¬ ((k = 1 → 0 ≤ v ∧ v ≤ 9) ∧ (0 ≤ c ∧ c ≤ d ∧ d ≤ 99) ∧ (1 ≤ e ∧ e ≤ 1000))) (-1, rf_ (th_ h) 2) (cf_ (hp_I h 241 48 = 8) (-1, rf_ (th_ h) 3) (hp_I h 241 48, up_con (th_ h) (hp_I h 241 48).toNatClampNeg k a v c d e)))
def by_ (a b c d e : Int32) (i : Nat) : Int32 := ((if i < 4 then a else if i < 8 then b else if i < 12 then c else if i < 16 then d else e) >>> (nI (24 - 8 * (i % 4)) &&& 31)) &&& 255
def tp_ (T : Nat → Int32) (n : Nat) (a b c d e : Int32) (k : Nat) : Nat → Int32 := fun i => if n ≤ i ∧ i < n + k then by_ a b c d e (i - n) else T i
theorem I_id (h : AH) (p k : Nat) : up_I h p k (hp_I h p k) = h := by
  show (h.1, h.2.1, up_2 h.2.2.1 p k (h.2.2.1 p k), h.2.2.2.1, h.2.2.2.2) = h
  have : up_2 h.2.2.1 p k (h.2.2.1 p k) = h.2.2.1 := funext fun q => funext fun j => by
    unfold up_2
    by_cases e : q = p ∧ j = k
    · rw [if_pos e, e.1, e.2]
    · rw [if_neg e]
  rw [this]
theorem fd_sw (h : AH) (f : Nat → Int32) (k : Nat) (u v x : Int32) : up_I (up_I (up_I (up_IA h 253 f) 241 14 u) 253 k v) 241 14 x = up_I (up_IA h 253 (upd f k v)) 241 14 x := by
  have key : (hp_I (up_I (up_I (up_I (up_IA h 253 f) 241 14 u) 253 k v) 241 14 x)) = hp_I (up_I (up_IA h 253 (upd f k v)) 241 14 x) := funext fun q => funext fun j => by
    simp only [hp_I_I]
    by_cases e : q = 241 ∧ j = 14
    · simp only [if_pos e]
    · simp only [if_neg e]
      by_cases z : q = 253
      · subst z
        rw [hp_IA, hp_IA]
        unfold upd
        by_cases y : j = k
        · rw [if_pos ⟨rfl, y⟩, if_pos y]
        · rw [if_neg (fun t => y t.2), if_neg y]
      · rw [if_neg (fun t => z t.1), hp_IAn _ _ _ _ z, hp_IAn _ _ _ _ z]
  show ((h.1, h.2.1, hp_I (up_I (up_I (up_I (up_IA h 253 f) 241 14 u) 253 k v) 241 14 x), h.2.2.2.1, h.2.2.2.2) : AH) = _
  rw [key]
  rfl
theorem tp_0 (T : Nat → Int32) (n : Nat) (a b c d e : Int32) : tp_ T n a b c d e 0 = T := funext fun i => if_neg (by omega)
theorem tp_s (T : Nat → Int32) (n : Nat) (a b c d e : Int32) (k : Nat) : upd (tp_ T n a b c d e k) (n + k) (by_ a b c d e k) = tp_ T n a b c d e (k + 1) := funext fun i => by
  unfold upd tp_
  by_cases z : i = n + k
  · rw [if_pos z, if_pos (by omega), z, show n + k - n = k by omega]
  · rw [if_neg z]
    by_cases y : n ≤ i ∧ i < n + k
    · rw [if_pos y, if_pos (by omega)]
    · rw [if_neg y, if_neg (by omega)]
noncomputable def sp_feed (h : AH) (a b c d e : Int32) : Int32 × AH := cf_ (380 < hp_I h 241 14) (-1, th_ h) (hp_I h 241 14 + 20, up_I (up_IA (th_ h) 253 (tp_ (hp_I h 253) (hp_I h 241 14).toNatClampNeg a b c d e 20)) 241 14 (hp_I h 241 14 + 20))
theorem c_X4_tellsOf {G : Gv} {h : AH} (hm : MI h) {r j : Nat} (hj : 7 * r + j < 210) : Ctr G 1 yX4_tellsOf cX4_tellsOf 3 (some .int) [.ref 241, .int (nI r), .int (nI j)] h 0 0 (Pu h (.int (hp_I h 259 (7 * r + j)))) := by
  refine ctr_of (own := RX4) (nm := "tellsOf") (by decide) (Nat.le_of_ble_eq_true rfl) ?_
  refine v_aload_n dX4_tellsOf_0 rfl rfl ?_
  refine v_getR fX4_73 dX4_tellsOf_1 (mK_obj hm) (mR_told hm) ?_ fcA_I
  refine v_bipush (v := 7) dX4_tellsOf_4 (by decide) ?_
  refine v_iload_n dX4_tellsOf_6 rfl rfl ?_
  refine v_imul dX4_tellsOf_7 ?_
  refine v_iload_n dX4_tellsOf_8 rfl rfl ?_
  refine v_iadd dX4_tellsOf_9 ?_
  refine v_iald dX4_tellsOf_10 (mK_told hm) (ix_add (ix_mul (ix_lit _) rfl) rfl) (by first | assumption | omega) ?_
  exact v_reti dX4_tellsOf_11 rfl (Pu_i (by first | rfl | exact (b2i_t (by first | assumption | omega | grind)).symm | exact (b2i_f (by first | assumption | omega | grind)).symm))

theorem c_X4_isReport {G : Gv} {h : AH} (hm : MI h) (x : Int32) : Ctr G 1 yX4_isReport cX4_isReport 2 (some .boolean) [.ref 241, .int x] h 0 0 (Pu h (.int (b2i (0 ≤ x ∧ x < hp_I h 241 42)))) := by
  refine ctr_of (own := RX4) (nm := "isReport") (by decide) (Nat.le_of_ble_eq_true rfl) ?_
  refine v_iload_n dX4_isReport_0 rfl rfl ?_
  refine v_if_lt (tgt := 16) dX4_isReport_1 (by decide) (fun b1 => ?_) (fun b1 => ?_)
  · skip
    refine v_iconst (v := 0) dX4_isReport_16 (by decide) ?_
    exact v_reti dX4_isReport_17 (by first | rfl | exact rt_z) (Pu_i (by first | rfl | exact (b2i_t (by first | assumption | omega | grind)).symm | exact (b2i_f (by first | assumption | omega | grind)).symm))
  · skip
    refine v_iload_n dX4_isReport_4 rfl rfl ?_
    refine v_aload_n dX4_isReport_5 rfl rfl ?_
    refine v_getI fX4_119 dX4_isReport_6 (mK_obj hm) ?_
    refine v_icmp_ge (tgt := 16) dX4_isReport_9 (by decide) (fun b9 => ?_) (fun b9 => ?_)
    · skip
      refine v_iconst (v := 0) dX4_isReport_16 (by decide) ?_
      exact v_reti dX4_isReport_17 (by first | rfl | exact rt_z) (Pu_i (by first | rfl | exact (b2i_t (by first | assumption | omega | grind)).symm | exact (b2i_f (by first | assumption | omega | grind)).symm))
    · skip
      refine v_iconst (v := 1) dX4_isReport_12 (by decide) ?_
      refine v_goto (tgt := 17) dX4_isReport_13 (by decide) ?_
      exact v_reti dX4_isReport_17 (by first | rfl | exact rt_z) (Pu_i (by first | rfl | exact (b2i_t (by first | assumption | omega | grind)).symm | exact (b2i_f (by first | assumption | omega | grind)).symm))

theorem c_X4_isOfThing {G : Gv} {h : AH} (hm : MI h) {nR : Nat} (hR : hp_I h 241 42 = nI nR) (hn : nR ≤ 30) (x : Int32) : Ctr G 2 yX4_isOfThing cX4_isOfThing 2 (some .boolean) [.ref 241, .int x] h 0 0 (Pu h (.int (b2i ((0 ≤ x ∧ x < nI nR) ∧ hp_I h 259 (7 * x.toNatClampNeg + 1) = 0)))) := by
  refine ctr_of (own := RX4) (nm := "isOfThing") (by decide) (Nat.le_of_ble_eq_true rfl) ?_
  refine v_aload_n dX4_isOfThing_0 rfl rfl ?_
  refine v_iload_n dX4_isOfThing_1 rfl rfl ?_
  refine v_pV mtX4_isReport q2045 q2047 qs94 rfl (by decide) dX4_isOfThing_2 (c_X4_isReport hm _) (mK_obj hm) (by decide) ?_
  refine v_if_eq (tgt := 21) dX4_isOfThing_5 (by decide) (fun b5 => ?_) (fun b5 => ?_)
  · skip
    refine v_iconst (v := 0) dX4_isOfThing_21 (by decide) ?_
    exact v_reti dX4_isOfThing_22 (by first | rfl | exact rt_z) (Pu_i (by (try rw [hR] at *); (try simp only [b2i_0, b2i_n0] at *); (try rw [nI_clamp (by omega)]); first | exact (b2i_t (by grind)).symm | exact (b2i_f (by grind)).symm))
  · skip
    rw [b2i_n0, hR] at b5
    obtain ⟨xn, hxn, rfl⟩ := nI_rng b5 (by omega)
    refine v_aload_n dX4_isOfThing_8 rfl rfl ?_
    refine v_iload_n dX4_isOfThing_9 rfl rfl ?_
    refine v_iconst (v := nI 1) dX4_isOfThing_10 (by decide) ?_
    refine v_pV mtX4_tellsOf q2053 q2055 qs96 rfl (by decide) dX4_isOfThing_11 (c_X4_tellsOf hm ?_) (mK_obj hm) (by decide) ?_
    · omega
    refine v_if_ne (tgt := 21) dX4_isOfThing_14 (by decide) (fun b14 => ?_) (fun b14 => ?_)
    · skip
      refine v_iconst (v := 0) dX4_isOfThing_21 (by decide) ?_
      exact v_reti dX4_isOfThing_22 (by first | rfl | exact rt_z) (Pu_i (by (try rw [hR] at *); (try simp only [b2i_0, b2i_n0] at *); (try rw [nI_clamp (by omega)]); first | exact (b2i_t (by grind)).symm | exact (b2i_f (by grind)).symm))
    · skip
      refine v_iconst (v := 1) dX4_isOfThing_17 (by decide) ?_
      refine v_goto (tgt := 22) dX4_isOfThing_18 (by decide) ?_
      exact v_reti dX4_isOfThing_22 (by first | rfl | exact rt_z) (Pu_i (by (try rw [hR] at *); (try simp only [b2i_0, b2i_n0] at *); (try rw [nI_clamp (by omega)]); first | exact (b2i_t (by grind)).symm | exact (b2i_f (by grind)).symm))

theorem c_X4_holdsAt {G : Gv} {h : AH} (hm : MI h) {b p t : Nat} (hb : b ≤ 2870) (hp : p < 9) (ht : t < 100) (a : Int32) : Ctr G 1 yX4_holdsAt cX4_holdsAt 5 (some .boolean) [.ref 241, .int (nI b), .int (nI p), .int a, .int (nI t)] h 0 0 (Pu h (.int (b2c (ha_ (hp_I h 243) b p a t)))) := by
  refine ctr_of (own := RX4) (nm := "holdsAt") (by decide) (Nat.le_of_ble_eq_true rfl) ?_
  refine v_aload_n dX4_holdsAt_0 rfl rfl ?_
  refine v_getR fX4_17 dX4_holdsAt_1 (mK_obj hm) (mR_all hm) ?_ fcA_I
  refine v_iload_n dX4_holdsAt_4 rfl rfl ?_
  refine v_sipush (v := 200) dX4_holdsAt_5 (by decide) ?_
  refine v_iload_n dX4_holdsAt_8 rfl rfl ?_
  refine v_imul dX4_holdsAt_9 ?_
  refine v_iadd dX4_holdsAt_10 ?_
  refine v_iload dX4_holdsAt_11 rfl ?_
  refine v_iadd dX4_holdsAt_13 ?_
  refine v_iald dX4_holdsAt_14 (mK_all hm) (ix_add (ix_add rfl (ix_mul (ix_lit _) rfl)) rfl) (by first | assumption | omega) ?_
  refine v_iload_n dX4_holdsAt_15 rfl rfl ?_
  refine v_icmp_eq (tgt := 41) dX4_holdsAt_16 (by decide) (fun b16 => ?_) (fun b16 => ?_)
  · skip
    refine v_iconst (v := 1) dX4_holdsAt_41 (by decide) ?_
    refine v_goto (tgt := 46) dX4_holdsAt_42 (by decide) ?_
    exact v_reti dX4_holdsAt_46 (by first | rfl | exact rt_z) (Pu_i (by unfold ha_; first | exact (b2c_t (by grind)).symm | exact (b2c_f (by grind)).symm))
  · skip
    refine v_aload_n dX4_holdsAt_19 rfl rfl ?_
    refine v_getR fX4_17 dX4_holdsAt_20 (mK_obj hm) (mR_all hm) ?_ fcA_I
    refine v_iload_n dX4_holdsAt_23 rfl rfl ?_
    refine v_bipush (v := 100) dX4_holdsAt_24 (by decide) ?_
    refine v_iconst (v := 2) dX4_holdsAt_26 (by decide) ?_
    refine v_iload_n dX4_holdsAt_27 rfl rfl ?_
    refine v_imul dX4_holdsAt_28 ?_
    refine v_iconst (v := 1) dX4_holdsAt_29 (by decide) ?_
    refine v_iadd dX4_holdsAt_30 ?_
    refine v_imul dX4_holdsAt_31 ?_
    refine v_iadd dX4_holdsAt_32 ?_
    refine v_iload dX4_holdsAt_33 rfl ?_
    refine v_iadd dX4_holdsAt_35 ?_
    refine v_iald dX4_holdsAt_36 (mK_all hm) (ix_add (ix_add rfl (ix_mul (ix_lit _) (ix_add (ix_mul (ix_lit _) rfl) (ix_lit _)))) rfl) (by first | assumption | omega) ?_
    refine v_iload_n dX4_holdsAt_37 rfl rfl ?_
    refine v_icmp_ne (tgt := 45) dX4_holdsAt_38 (by decide) (fun b38 => ?_) (fun b38 => ?_)
    · skip
      refine v_iconst (v := 0) dX4_holdsAt_45 (by decide) ?_
      exact v_reti dX4_holdsAt_46 (by first | rfl | exact rt_z) (Pu_i (by unfold ha_; first | exact (b2c_t (by grind)).symm | exact (b2c_f (by grind)).symm))
    · skip
      refine v_iconst (v := 1) dX4_holdsAt_41 (by decide) ?_
      refine v_goto (tgt := 46) dX4_holdsAt_42 (by decide) ?_
      exact v_reti dX4_holdsAt_46 (by first | rfl | exact rt_z) (Pu_i (by unfold ha_; first | exact (b2c_t (by grind)).symm | exact (b2c_f (by grind)).symm))

theorem c_X4_isSuch {G : Gv} {h : AH} (hm : MI h) {m r : Nat} (h1 : m < 40) (h2 : r < 30) (sl : Int32) : Ctr G 2 yX4_isSuch cX4_isSuch 4 (some .boolean) [.ref 241, .int (nI m), .int (nI r), .int sl] h 0 0 (Pu h (.int (b2c (su_ (hp_I h 243) (hp_I h 259) m r sl)))) := by
  refine ctr_of (own := RX4) (nm := "isSuch") (by decide) (Nat.le_of_ble_eq_true rfl) ?_
  refine v_aload_n dX4_isSuch_0 rfl rfl ?_
  refine v_iload_n dX4_isSuch_1 rfl rfl ?_
  refine v_iconst (v := nI 1) dX4_isSuch_2 (by decide) ?_
  refine v_pV mtX4_moveOf q1878 q1880 qs70 rfl (by decide) dX4_isSuch_3 (c_X4_moveOf hm ?_) (mK_obj hm) (by decide) ?_
  · omega
  refine v_aload_n dX4_isSuch_6 rfl rfl ?_
  refine v_iload_n dX4_isSuch_7 rfl rfl ?_
  refine v_iconst (v := nI 2) dX4_isSuch_8 (by decide) ?_
  refine v_pV mtX4_tellsOf q2053 q2055 qs96 rfl (by decide) dX4_isSuch_9 (c_X4_tellsOf hm ?_) (mK_obj hm) (by decide) ?_
  · omega
  refine v_icmp_ne (tgt := 65) dX4_isSuch_12 (by decide) (fun b12 => ?_) (fun b12 => ?_)
  · skip
    refine v_iconst (v := 0) dX4_isSuch_65 (by decide) ?_
    exact v_reti dX4_isSuch_66 (by first | rfl | exact rt_z) (Pu_i (by (try simp only [b2i_0, b2i_n0] at *); unfold su_; first | exact (b2c_t (by grind)).symm | exact (b2c_f (by grind)).symm))
  · skip
    refine v_aload_n dX4_isSuch_15 rfl rfl ?_
    refine v_iload_n dX4_isSuch_16 rfl rfl ?_
    refine v_iconst (v := nI 2) dX4_isSuch_17 (by decide) ?_
    refine v_pV mtX4_moveOf q1878 q1880 qs70 rfl (by decide) dX4_isSuch_18 (c_X4_moveOf hm ?_) (mK_obj hm) (by decide) ?_
    · omega
    refine v_aload_n dX4_isSuch_21 rfl rfl ?_
    refine v_iload_n dX4_isSuch_22 rfl rfl ?_
    refine v_iconst (v := nI 3) dX4_isSuch_23 (by decide) ?_
    refine v_pV mtX4_tellsOf q2053 q2055 qs96 rfl (by decide) dX4_isSuch_24 (c_X4_tellsOf hm ?_) (mK_obj hm) (by decide) ?_
    · omega
    refine v_icmp_ne (tgt := 65) dX4_isSuch_27 (by decide) (fun b27 => ?_) (fun b27 => ?_)
    · skip
      refine v_iconst (v := 0) dX4_isSuch_65 (by decide) ?_
      exact v_reti dX4_isSuch_66 (by first | rfl | exact rt_z) (Pu_i (by (try simp only [b2i_0, b2i_n0] at *); unfold su_; first | exact (b2c_t (by grind)).symm | exact (b2c_f (by grind)).symm))
    · skip
      refine v_aload_n dX4_isSuch_30 rfl rfl ?_
      refine v_iload_n dX4_isSuch_31 rfl rfl ?_
      refine v_iconst (v := nI 3) dX4_isSuch_32 (by decide) ?_
      refine v_pV mtX4_moveOf q1878 q1880 qs70 rfl (by decide) dX4_isSuch_33 (c_X4_moveOf hm ?_) (mK_obj hm) (by decide) ?_
      · omega
      refine v_i2l dX4_isSuch_36 ?_
      refine v_aload_n dX4_isSuch_37 rfl rfl ?_
      refine v_iload_n dX4_isSuch_38 rfl rfl ?_
      refine v_iconst (v := nI 4) dX4_isSuch_39 (by decide) ?_
      refine v_pV mtX4_tellsOf q2053 q2055 qs96 rfl (by decide) dX4_isSuch_40 (c_X4_tellsOf hm ?_) (mK_obj hm) (by decide) ?_
      · omega
      refine v_iload_n dX4_isSuch_43 rfl rfl ?_
      refine v_isub dX4_isSuch_44 ?_
      refine v_i2l dX4_isSuch_45 ?_
      refine v_aload_n dX4_isSuch_46 rfl rfl ?_
      refine v_iload_n dX4_isSuch_47 rfl rfl ?_
      refine v_iconst (v := nI 5) dX4_isSuch_48 (by decide) ?_
      refine v_pV mtX4_tellsOf q2053 q2055 qs96 rfl (by decide) dX4_isSuch_49 (c_X4_tellsOf hm ?_) (mK_obj hm) (by decide) ?_
      · omega
      refine v_iload_n dX4_isSuch_52 rfl rfl ?_
      refine v_iadd dX4_isSuch_53 ?_
      refine v_i2l dX4_isSuch_54 ?_
      refine v_pS mtX4_within q1790 q1791 dX4_isSuch_55 (c_X4_within _ _ _) (by decide) ?_
      refine v_if_eq (tgt := 65) dX4_isSuch_58 (by decide) (fun b58 => ?_) (fun b58 => ?_)
      · skip
        refine v_iconst (v := 0) dX4_isSuch_65 (by decide) ?_
        exact v_reti dX4_isSuch_66 (by first | rfl | exact rt_z) (Pu_i (by (try simp only [b2i_0, b2i_n0] at *); unfold su_; first | exact (b2c_t (by grind)).symm | exact (b2c_f (by grind)).symm))
      · skip
        refine v_iconst (v := 1) dX4_isSuch_61 (by decide) ?_
        refine v_goto (tgt := 66) dX4_isSuch_62 (by decide) ?_
        exact v_reti dX4_isSuch_66 (by first | rfl | exact rt_z) (Pu_i (by (try simp only [b2i_0, b2i_n0] at *); unfold su_; first | exact (b2c_t (by grind)).symm | exact (b2c_f (by grind)).symm))

theorem c_X4_isTask {G : Gv} {h : AH} (hm : MI h) (th x a b : Int32) : Ctr G 3 yX4_isTask cX4_isTask 5 (some .boolean) [.ref 241, .int th, .int x, .int a, .int b] h 0 0 (Pu h (.int (b2i ((0 ≤ th ∧ th < hp_I h 243 4881) ∧ (0 ≤ x ∧ x ≤ hp_I h 241 4) ∧ (0 ≤ a ∧ a ≤ b ∧ b ≤ 99))))) := by
  refine ctr_of (own := RX4) (nm := "isTask") (by decide) (Nat.le_of_ble_eq_true rfl) ?_
  refine v_aload_n dX4_isTask_0 rfl rfl ?_
  refine v_iload_n dX4_isTask_1 rfl rfl ?_
  refine v_pV mtX4_isThing q1851 q1853 qs64 rfl (by decide) dX4_isTask_2 (c_X4_isThing hm _) (mK_obj hm) (by decide) ?_
  refine v_if_eq (tgt := 29) dX4_isTask_5 (by decide) (fun b5 => ?_) (fun b5 => ?_)
  · skip
    refine v_iconst (v := 0) dX4_isTask_29 (by decide) ?_
    exact v_reti dX4_isTask_30 (by first | rfl | exact rt_z) (Pu_i (by (try simp only [b2i_0, b2i_n0] at *); first | exact (b2i_t (by grind)).symm | exact (b2i_f (by grind)).symm))
  · skip
    refine v_aload_n dX4_isTask_8 rfl rfl ?_
    refine v_iload_n dX4_isTask_9 rfl rfl ?_
    refine v_pV mtX4_isSpot q1819 q1821 qs60 rfl (by decide) dX4_isTask_10 (c_X4_isSpot hm _) (mK_obj hm) (by decide) ?_
    refine v_if_eq (tgt := 29) dX4_isTask_13 (by decide) (fun b13 => ?_) (fun b13 => ?_)
    · skip
      refine v_iconst (v := 0) dX4_isTask_29 (by decide) ?_
      exact v_reti dX4_isTask_30 (by first | rfl | exact rt_z) (Pu_i (by (try simp only [b2i_0, b2i_n0] at *); first | exact (b2i_t (by grind)).symm | exact (b2i_f (by grind)).symm))
    · skip
      refine v_iload_n dX4_isTask_16 rfl rfl ?_
      refine v_iload dX4_isTask_17 rfl ?_
      refine v_pS mtX4_areSeconds q1809 q1810 dX4_isTask_19 (c_X4_areSeconds _ _) (by decide) ?_
      refine v_if_eq (tgt := 29) dX4_isTask_22 (by decide) (fun b22 => ?_) (fun b22 => ?_)
      · skip
        refine v_iconst (v := 0) dX4_isTask_29 (by decide) ?_
        exact v_reti dX4_isTask_30 (by first | rfl | exact rt_z) (Pu_i (by (try simp only [b2i_0, b2i_n0] at *); first | exact (b2i_t (by grind)).symm | exact (b2i_f (by grind)).symm))
      · skip
        refine v_iconst (v := 1) dX4_isTask_25 (by decide) ?_
        refine v_goto (tgt := 30) dX4_isTask_26 (by decide) ?_
        exact v_reti dX4_isTask_30 (by first | rfl | exact rt_z) (Pu_i (by (try simp only [b2i_0, b2i_n0] at *); first | exact (b2i_t (by grind)).symm | exact (b2i_f (by grind)).symm))

theorem c_X4_isSet {G : Gv} {h : AH} (hm : MI h) {nC : Nat} (hC : hp_I h 241 48 = nI nC) (h8 : nC ≤ 8) (x : Int32) : Ctr G 2 yX4_isSet cX4_isSet 2 (some .boolean) [.ref 241, .int x] h 0 0 (Pu h (.int (b2i (0 ≤ x ∧ x ≤ nI (2 ^ nC - 1))))) := by
  refine ctr_of (own := RX4) (nm := "isSet") (by decide) (Nat.le_of_ble_eq_true rfl) ?_
  refine v_iload_n dX4_isSet_0 rfl rfl ?_
  refine v_i2l dX4_isSet_1 ?_
  refine v_lconst (v := (0 : Int32).toInt64) dX4_isSet_2 (by decide) ?_
  refine v_iconst (v := 1) dX4_isSet_3 (by decide) ?_
  refine v_aload_n dX4_isSet_4 rfl rfl ?_
  refine v_getI fX4_122 dX4_isSet_5 (mK_obj hm) ?_
  rw [hC]
  refine v_ishl dX4_isSet_8 ?_
  rw [sh_1 (by omega)]
  refine v_iconst (v := 1) dX4_isSet_9 (by decide) ?_
  refine v_isub dX4_isSet_10 ?_
  rw [nI_sub1 (Nat.two_pow_pos _)]
  refine v_i2l dX4_isSet_11 ?_
  refine v_pS mtX4_within q1790 q1791 dX4_isSet_12 (c_X4_within _ _ _) (by decide) ?_
  exact v_reti dX4_isSet_15 (by exact rt_z) (Pu_i rfl)

theorem c_X4_takes {G : Gv} {h : AH} (hm : MI h) {w k9 : Nat} (hw : w < 16) (hk9 : k9 ≤ 8) (hst : hp_I h 254 w = nI k9) : Ctr G 1 yX4_takes cX4_takes 4 (some .int) [.ref 241, .int (nI w)] h 0 0 (Pu h (.int (tk_ (hp_I h 255) (hp_I h 257) w k9))) := by
  refine ctr_of (own := RX4) (nm := "takes") (by decide) (Nat.le_of_ble_eq_true rfl) ?_
  refine v_iconst (v := 0) dX4_takes_0 (by decide) ?_
  refine v_istore_n dX4_takes_1 rfl (by decide) ?_
  refine v_bipush (v := nI 8) dX4_takes_2 (by decide) ?_
  refine v_iload_n dX4_takes_4 rfl rfl ?_
  refine v_imul dX4_takes_5 ?_
  refine v_istore_n dX4_takes_6 rfl (by decide) ?_
  refine v_loc2 (by repeat' (first | with_reducible exact lsub_n | with_reducible refine lsub_c ?_ ?_ | with_reducible refine lk_hit ?_ | with_reducible refine lk_miss (by decide) ?_ ?_ | (first | exact rfl | exact congrArg (fun z => some (Value.int z)) (show nI 8 * nI w = nI (8 * w + 0) from pk_mul _ _)))) (v_lp1 (fun (k : Nat) => k9 - k) (fun (k : Nat) => k ≤ k9) (fun (k : Nat) => [(0, .ref 241), (1, .int (nI w)), (2, .int (tk_ (hp_I h 255) (hp_I h 257) w k)), (3, .int (nI (8 * w + k)))]) (fun _ => []) (fun (k : Nat) => h) ?_ 0 (Nat.zero_le _))
  intro k hI IH
  refine v_iload_n dX4_takes_7 rfl rfl ?_
  refine v_bipush (v := nI 8) dX4_takes_8 (by decide) ?_
  refine v_iload_n dX4_takes_10 rfl rfl ?_
  refine v_imul dX4_takes_11 ?_
  refine v_aload_n dX4_takes_12 rfl rfl ?_
  refine v_getR fX4_54 dX4_takes_13 (mK_obj hm) (mR_steps hm) ?_ fcA_I
  refine v_iload_n dX4_takes_16 rfl rfl ?_
  refine v_iald dX4_takes_17 (mK_steps hm) rfl (by first | assumption | omega) ?_
  rw [hst]
  refine v_iadd dX4_takes_18 ?_
  refine v_icmp_ge (tgt := 61) dX4_takes_19 (by decide) (fun b19 => ?_) (fun b19 => ?_)
  · skip
    rw [show nI 8 * nI w = nI (8 * w) from pk_mul _ _] at b19
    rw [nI_add, nI_leI (by omega) (by omega)] at b19
    have hk : k9 = k := by omega
    subst hk
    refine v_iload_n dX4_takes_61 rfl rfl ?_
    exact v_reti dX4_takes_62 rfl (Pu_i rfl)
  · skip
    rw [show nI 8 * nI w = nI (8 * w) from pk_mul _ _] at b19
    rw [nI_add, nI_leI (by omega) (by omega)] at b19
    have hk : k < k9 := by omega
    refine v_iload_n dX4_takes_22 rfl rfl ?_
    refine v_join 53 (fun z => z = (if hp_I h 255 (8 * w + k) = 1 ∨ hp_I h 255 (8 * w + k) = 2 then hp_I h 257 (8 * w + k) else 0)) (fun z hz => ?_) (fun hj53 => ?_)
    · skip
      subst hz
      refine v_iadd dX4_takes_53 ?_
      refine v_istore_n dX4_takes_54 rfl (by decide) ?_
      refine v_iinc dX4_takes_55 rfl (by first | with_reducible exact nI_inc _ | exact rfl) (by decide) ?_
      refine v_goto (tgt := 7) dX4_takes_58 (by decide) ?_
      refine v_loc2 (by repeat' (first | with_reducible exact lsub_n | with_reducible refine lsub_c ?_ ?_ | with_reducible refine lk_hit ?_ | with_reducible refine lk_miss (by decide) ?_ ?_ | exact rfl)) (IH (k + 1) (by omega) (by omega))
    · skip
      refine v_aload_n dX4_takes_23 rfl rfl ?_
      refine v_getR fX4_57 dX4_takes_24 (mK_obj hm) (mR_kindOf hm) ?_ fcA_I
      refine v_iload_n dX4_takes_27 rfl rfl ?_
      refine v_iald dX4_takes_28 (mK_kindOf hm) rfl (by first | assumption | omega) ?_
      refine v_iconst (v := 1) dX4_takes_29 (by decide) ?_
      refine v_icmp_eq (tgt := 43) dX4_takes_30 (by decide) (fun b30 => ?_) (fun b30 => ?_)
      · skip
        refine v_aload_n dX4_takes_43 rfl rfl ?_
        refine v_getR fX4_63 dX4_takes_44 (mK_obj hm) (mR_manyOf hm) ?_ fcA_I
        refine v_iload_n dX4_takes_47 rfl rfl ?_
        refine v_iald dX4_takes_48 (mK_manyOf hm) rfl (by first | assumption | omega) ?_
        refine v_goto (tgt := 53) dX4_takes_49 (by decide) ?_
        exact hj53 _ (by first | (rw [if_pos (by grind)]) | (rw [if_neg (by grind)]))
      · skip
        refine v_aload_n dX4_takes_33 rfl rfl ?_
        refine v_getR fX4_57 dX4_takes_34 (mK_obj hm) (mR_kindOf hm) ?_ fcA_I
        refine v_iload_n dX4_takes_37 rfl rfl ?_
        refine v_iald dX4_takes_38 (mK_kindOf hm) rfl (by first | assumption | omega) ?_
        refine v_iconst (v := 2) dX4_takes_39 (by decide) ?_
        refine v_icmp_ne (tgt := 52) dX4_takes_40 (by decide) (fun b40 => ?_) (fun b40 => ?_)
        · skip
          refine v_iconst (v := 0) dX4_takes_52 (by decide) ?_
          exact hj53 _ (by first | (rw [if_pos (by grind)]) | (rw [if_neg (by grind)]))
        · skip
          refine v_aload_n dX4_takes_43 rfl rfl ?_
          refine v_getR fX4_63 dX4_takes_44 (mK_obj hm) (mR_manyOf hm) ?_ fcA_I
          refine v_iload_n dX4_takes_47 rfl rfl ?_
          refine v_iald dX4_takes_48 (mK_manyOf hm) rfl (by first | assumption | omega) ?_
          refine v_goto (tgt := 53) dX4_takes_49 (by decide) ?_
          exact hj53 _ (by first | (rw [if_pos (by grind)]) | (rw [if_neg (by grind)]))

theorem c_X4_way {G : Gv} {h : AH} (hm : MI h) {nW : Nat} (hW : WY_ h nW) (a x : Int32) : Ctr G 2 yX4_way cX4_way 3 (some .int) [.ref 241, .int a, .int x] h 0 0 (Pr (sp_way h a x)) := by
  refine ctr_of (own := RX4) (nm := "way") (by decide) (Nat.le_of_ble_eq_true rfl) ?_
  obtain ⟨hW1, hW2, hW3⟩ := hW
  have e15 : hp_I (th_ h) 241 15 = hp_I h 241 15 := rfl
  refine v_aload_n dX4_way_0 rfl rfl ?_
  refine v_iconst (v := 0) dX4_way_1 (by decide) ?_
  refine v_thr fX4_1 dX4_way_2 hm ?_
  have hm := MI_th hm
  refine v_iload_n dX4_way_5 rfl rfl ?_
  refine v_i2l dX4_way_6 ?_
  refine v_lconst (v := (0 : Int32).toInt64) dX4_way_7 (by decide) ?_
  refine v_aload_n dX4_way_8 rfl rfl ?_
  refine v_getI fX4_297 dX4_way_9 (mK_obj hm) ?_
  rw [e15, hW1]
  refine v_iconst (v := 1) dX4_way_12 (by decide) ?_
  refine v_isub dX4_way_13 ?_
  refine v_i2l dX4_way_14 ?_
  refine v_pS mtX4_within q1790 q1791 dX4_way_15 (c_X4_within _ _ _) (by decide) ?_
  refine v_if_ne (tgt := 25) dX4_way_18 (by decide) (fun b18 => ?_) (fun b18 => ?_)
  · skip
    rw [b2i_n0, le_pred (by omega), ] at b18
    obtain ⟨an, han, rfl⟩ := nI_rng b18 (by omega)
    obtain ⟨kn, hkn, ek⟩ := hW3 an han
    refine v_iload_n dX4_way_25 rfl rfl ?_
    refine v_if_ne (tgt := 38) dX4_way_26 (by decide) (fun b26 => ?_) (fun b26 => ?_)
    · skip
      refine v_iload_n dX4_way_38 rfl rfl ?_
      refine v_iconst (v := 1) dX4_way_39 (by decide) ?_
      refine v_icmp_ne (tgt := 51) dX4_way_40 (by decide) (fun b40 => ?_) (fun b40 => ?_)
      · skip
        refine v_iconst (v := (-1)) dX4_way_51 (by decide) ?_
        exact v_reti dX4_way_52 rfl (by (try rw [b2i_0, le_pred (by omega)] at b18); unfold sp_way; rw [hW1]; (try rw [cf_t b18, nI_clamp (by omega), ek, nI_clamp (by omega)]); first | (rw [cf_f b18]; exact ⟨rfl, rfl⟩) | (rw [cf_t b26]; exact ⟨rfl, rfl⟩) | (rw [cf_f b26, cf_t b40]; exact ⟨rfl, rfl⟩) | (rw [cf_f b26, cf_f b40]; exact ⟨rfl, rfl⟩))
      · skip
        refine v_aload_n dX4_way_43 rfl rfl ?_
        refine v_iload_n dX4_way_44 rfl rfl ?_
        refine v_pV mtX4_takes q1992 q1994 qs84 rfl (by decide) dX4_way_45 (c_X4_takes (k9 := kn) hm (by omega) (by omega) (show hp_I (th_ h) 254 an = nI kn from ek)) (mK_obj hm) (by decide) ?_
        refine v_goto (tgt := 52) dX4_way_48 (by decide) ?_
        exact v_reti dX4_way_52 rfl (by (try rw [b2i_0, le_pred (by omega)] at b18); unfold sp_way; rw [hW1]; (try rw [cf_t b18, nI_clamp (by omega), ek, nI_clamp (by omega)]); first | (rw [cf_f b18]; exact ⟨rfl, rfl⟩) | (rw [cf_t b26]; exact ⟨rfl, rfl⟩) | (rw [cf_f b26, cf_t b40]; exact ⟨rfl, rfl⟩) | (rw [cf_f b26, cf_f b40]; exact ⟨rfl, rfl⟩))
    · skip
      refine v_aload_n dX4_way_29 rfl rfl ?_
      refine v_getR fX4_54 dX4_way_30 (mK_obj hm) (mR_steps hm) ?_ fcA_I
      refine v_iload_n dX4_way_33 rfl rfl ?_
      refine v_iald dX4_way_34 (mK_steps hm) rfl (by first | assumption | omega) ?_
      rw [show hp_I (th_ h) 254 an = hp_I h 254 an from rfl]
      refine v_goto (tgt := 52) dX4_way_35 (by decide) ?_
      exact v_reti dX4_way_52 rfl (by (try rw [b2i_0, le_pred (by omega)] at b18); unfold sp_way; rw [hW1]; (try rw [cf_t b18, nI_clamp (by omega), ek, nI_clamp (by omega)]); first | (rw [cf_f b18]; exact ⟨rfl, rfl⟩) | (rw [cf_t b26]; exact ⟨rfl, rfl⟩) | (rw [cf_f b26, cf_t b40]; exact ⟨rfl, rfl⟩) | (rw [cf_f b26, cf_f b40]; exact ⟨rfl, rfl⟩))
  · skip
    refine v_iconst (v := (-1)) dX4_way_21 (by decide) ?_
    refine v_goto (tgt := 52) dX4_way_22 (by decide) ?_
    exact v_reti dX4_way_52 rfl (by (try rw [b2i_0, le_pred (by omega)] at b18); unfold sp_way; rw [hW1]; (try rw [cf_t b18, nI_clamp (by omega), ek, nI_clamp (by omega)]); first | (rw [cf_f b18]; exact ⟨rfl, rfl⟩) | (rw [cf_t b26]; exact ⟨rfl, rfl⟩) | (rw [cf_f b26, cf_t b40]; exact ⟨rfl, rfl⟩) | (rw [cf_f b26, cf_f b40]; exact ⟨rfl, rfl⟩))

set_option maxHeartbeats 1000000 in
theorem c_X4_report {G : Gv} {h : AH} (hm : MI h) {nR : Nat} (hR : hp_I h 241 42 = nI nR) (hn : nR ≤ 30) (p k a b c e g : Int32) : Ctr G 3 yX4_report cX4_report 9 (some .int) [.ref 241, .int p, .int k, .int a, .int b, .int c, .int e, .int g] h 0 0 (Pr (sp_report h p k a b c e g)) := by
  refine ctr_of (own := RX4) (nm := "report") (by decide) (Nat.le_of_ble_eq_true rfl) ?_
  have e42 : hp_I (th_ h) 241 42 = nI nR := hR
  refine v_aload_n dX4_report_0 rfl rfl ?_
  refine v_iconst (v := 0) dX4_report_1 (by decide) ?_
  refine v_thr fX4_1 dX4_report_2 hm ?_
  have hm := MI_th hm
  refine v_cut 70 ((0 ≤ p ∧ p < hp_I h 241 4) ∧ ((k = 0 ∧ (0 ≤ a ∧ a < hp_I h 243 4881) ∧ (0 ≤ b ∧ b ≤ hp_I h 241 4)) ∨ (k = 1 ∧ (0 ≤ a ∧ a < 2 * hp_I h 241 4) ∧ ¬ a / 2 = p))) (fun hz70 => ?_) (fun hc70 => ?_)
  · skip
    refine v_cut 99 ((0 ≤ c ∧ c ≤ e ∧ e ≤ 99) ∧ (0 ≤ g ∧ g ≤ 30)) (fun hz99 => ?_) (fun hc99 => ?_)
    · skip
      refine v_aload_n dX4_report_99 rfl rfl ?_
      refine v_getI fX4_119 dX4_report_100 (mK_obj hm) ?_
      rw [e42]
      refine v_bipush (v := 30) dX4_report_103 (by decide) ?_
      refine v_icmp_ne (tgt := 114) dX4_report_105 (by decide) (fun b105 => ?_) (fun b105 => ?_)
      · skip
        have hR3 : nR ≠ 30 := fun z => b105 (by rw [z]; rfl)
        refine v_bipush (v := 7) dX4_report_114 (by decide) ?_
        refine v_aload_n dX4_report_116 rfl rfl ?_
        refine v_getI fX4_119 dX4_report_117 (mK_obj hm) ?_
        rw [e42]
        refine v_imul dX4_report_120 ?_
        refine v_istore dX4_report_121 (by decide) ?_
        refine v_aload_n dX4_report_123 rfl rfl ?_
        refine v_getR fX4_73 dX4_report_124 (mK_obj hm) (mR_told hm) ?_ fcA_I
        refine v_iload dX4_report_127 rfl ?_
        refine v_iload_n dX4_report_129 rfl rfl ?_
        refine v_iast dX4_report_130 (mK_told hm) (ix_mul (ix_lit _) rfl) (by first | assumption | omega) ?_
        refine v_aload_n dX4_report_131 rfl rfl ?_
        refine v_getR fX4_73 dX4_report_132 (mK_obj hm) (mR_told hm) ?_ fcA_I
        refine v_iload dX4_report_135 rfl ?_
        refine v_iconst (v := 1) dX4_report_137 (by decide) ?_
        refine v_iadd dX4_report_138 ?_
        refine v_iload_n dX4_report_139 rfl rfl ?_
        refine v_iast dX4_report_140 (mK_told hm) (ix_add (ix_mul (ix_lit _) rfl) (ix_lit _)) (by first | assumption | omega) ?_
        refine v_aload_n dX4_report_141 rfl rfl ?_
        refine v_getR fX4_73 dX4_report_142 (mK_obj hm) (mR_told hm) ?_ fcA_I
        refine v_iload dX4_report_145 rfl ?_
        refine v_iconst (v := 2) dX4_report_147 (by decide) ?_
        refine v_iadd dX4_report_148 ?_
        refine v_iload_n dX4_report_149 rfl rfl ?_
        refine v_iast dX4_report_150 (mK_told hm) (ix_add (ix_mul (ix_lit _) rfl) (ix_lit _)) (by first | assumption | omega) ?_
        refine v_aload_n dX4_report_151 rfl rfl ?_
        refine v_getR fX4_73 dX4_report_152 (mK_obj hm) (mR_told hm) ?_ fcA_I
        refine v_iload dX4_report_155 rfl ?_
        refine v_iconst (v := 3) dX4_report_157 (by decide) ?_
        refine v_iadd dX4_report_158 ?_
        refine v_iload dX4_report_159 rfl ?_
        refine v_iast dX4_report_161 (mK_told hm) (ix_add (ix_mul (ix_lit _) rfl) (ix_lit _)) (by first | assumption | omega) ?_
        refine v_aload_n dX4_report_162 rfl rfl ?_
        refine v_getR fX4_73 dX4_report_163 (mK_obj hm) (mR_told hm) ?_ fcA_I
        refine v_iload dX4_report_166 rfl ?_
        refine v_iconst (v := 4) dX4_report_168 (by decide) ?_
        refine v_iadd dX4_report_169 ?_
        refine v_iload dX4_report_170 rfl ?_
        refine v_iast dX4_report_172 (mK_told hm) (ix_add (ix_mul (ix_lit _) rfl) (ix_lit _)) (by first | assumption | omega) ?_
        refine v_aload_n dX4_report_173 rfl rfl ?_
        refine v_getR fX4_73 dX4_report_174 (mK_obj hm) (mR_told hm) ?_ fcA_I
        refine v_iload dX4_report_177 rfl ?_
        refine v_iconst (v := 5) dX4_report_179 (by decide) ?_
        refine v_iadd dX4_report_180 ?_
        refine v_iload dX4_report_181 rfl ?_
        refine v_iast dX4_report_183 (mK_told hm) (ix_add (ix_mul (ix_lit _) rfl) (ix_lit _)) (by first | assumption | omega) ?_
        refine v_aload_n dX4_report_184 rfl rfl ?_
        refine v_getR fX4_73 dX4_report_185 (mK_obj hm) (mR_told hm) ?_ fcA_I
        refine v_iload dX4_report_188 rfl ?_
        refine v_bipush (v := 6) dX4_report_190 (by decide) ?_
        refine v_iadd dX4_report_192 ?_
        refine v_iload dX4_report_193 rfl ?_
        refine v_iast dX4_report_195 (mK_told hm) (ix_add (ix_mul (ix_lit _) rfl) (ix_lit _)) (by first | assumption | omega) ?_
        refine v_aload_n dX4_report_196 rfl rfl ?_
        refine v_dup dX4_report_197 rfl ?_
        refine v_getI fX4_119 dX4_report_198 (mK_obj hm) ?_
        rw [show hp_I (up_I (up_I (up_I (up_I (up_I (up_I (up_I (th_ h) 259 (7 * nR) p) 259 (7 * nR + 1) k) 259 (7 * nR + 2) a) 259 (7 * nR + 3) b) 259 (7 * nR + 4) c) 259 (7 * nR + 5) e) 259 (7 * nR + 6) g) 241 42 = nI nR from by simp only [hp_I_I]; rw [if_neg (by omega), if_neg (by omega), if_neg (by omega), if_neg (by omega), if_neg (by omega), if_neg (by omega), if_neg (by omega), e42]]
        refine v_iconst (v := 1) dX4_report_201 (by decide) ?_
        refine v_iadd dX4_report_202 ?_
        rw [nI_1]
        refine v_putI fX4_119 (.inl rfl) dX4_report_203 (mK_obj hm) ?_
        refine v_aload_n dX4_report_206 rfl rfl ?_
        refine v_getI fX4_119 dX4_report_207 (mK_obj hm) ?_
        rw [hp_I_I, if_pos ⟨rfl, rfl⟩]
        refine v_iconst (v := 1) dX4_report_210 (by decide) ?_
        refine v_isub dX4_report_211 ?_
        rw [nI_pred]
        exact v_reti dX4_report_212 rfl (by unfold sp_report; rw [hR]; rw [cf_f (fun z => z hz70), cf_f (fun z => z hz99), cf_f (fun z => hR3 ((nI_eqL (by omega) (by decide)).mp z)), nI_clamp (by omega)]; exact ⟨rfl, rfl⟩)
      · skip
        have hR3 : nR = 30 := (nI_eqL (by omega) (by decide)).mp b105
        refine v_aload_n dX4_report_108 rfl rfl ?_
        refine v_iconst (v := nI 3) dX4_report_109 (by decide) ?_
        refine v_zV mtX4_refuse q1827 q1829 qs61 rfl (by decide) dX4_report_110 (c_X4_refuse hm ?_) (mK_obj hm) (by decide) (fun r110 h110 q110 z110 => ?_)
        · decide
        obtain ⟨rfl, rfl⟩ := q110
        subst hR3
        exact v_reti dX4_report_113 rfl (by unfold sp_report; rw [hR]; rw [cf_f (fun z => z hz70), cf_f (fun z => z hz99), cf_t (by decide)]; exact ⟨rfl, rfl⟩)
    · skip
      refine v_cut 93 (¬ ((0 ≤ c ∧ c ≤ e ∧ e ≤ 99) ∧ (0 ≤ g ∧ g ≤ 30))) (fun hz93 => ?_) (fun hc93 => ?_)
      · skip
        refine v_aload_n dX4_report_93 rfl rfl ?_
        refine v_iconst (v := nI 2) dX4_report_94 (by decide) ?_
        refine v_zV mtX4_refuse q1827 q1829 qs61 rfl (by decide) dX4_report_95 (c_X4_refuse hm ?_) (mK_obj hm) (by decide) (fun r95 h95 q95 z95 => ?_)
        · decide
        obtain ⟨rfl, rfl⟩ := q95
        exact v_reti dX4_report_98 rfl (by unfold sp_report; rw [hR]; rw [cf_f (fun z => z hz70), cf_t hz93]; exact ⟨rfl, rfl⟩)
      · skip
        refine v_iload dX4_report_70 rfl ?_
        refine v_iload dX4_report_72 rfl ?_
        refine v_pS mtX4_areSeconds q1809 q1810 dX4_report_74 (c_X4_areSeconds _ _) (by decide) ?_
        refine v_if_eq (tgt := 93) dX4_report_77 (by decide) (fun b77 => ?_) (fun b77 => ?_)
        · skip
          exact hc93 (by (try simp only [b2i_0, b2i_n0] at *); (try simp only [th_4, th_33] at *); grind)
        · skip
          refine v_iload dX4_report_80 rfl ?_
          refine v_i2l dX4_report_82 ?_
          refine v_lconst (v := (0 : Int32).toInt64) dX4_report_83 (by decide) ?_
          refine v_ldc2 (v := (30 : Int32).toInt64) q2040 dX4_report_84 (by decide) ?_
          refine v_pS mtX4_within q1790 q1791 dX4_report_87 (c_X4_within _ _ _) (by decide) ?_
          refine v_if_ne (tgt := 99) dX4_report_90 (by decide) (fun b90 => ?_) (fun b90 => ?_)
          · skip
            exact hc99 (by (try simp only [b2i_0, b2i_n0] at *); (try simp only [th_4, th_33] at *); grind)
          · skip
            exact hc93 (by (try simp only [b2i_0, b2i_n0] at *); (try simp only [th_4, th_33] at *); grind)
  · skip
    refine v_cut 64 (¬ ((0 ≤ p ∧ p < hp_I h 241 4) ∧ ((k = 0 ∧ (0 ≤ a ∧ a < hp_I h 243 4881) ∧ (0 ≤ b ∧ b ≤ hp_I h 241 4)) ∨ (k = 1 ∧ (0 ≤ a ∧ a < 2 * hp_I h 241 4) ∧ ¬ a / 2 = p)))) (fun hz64 => ?_) (fun hc64 => ?_)
    · skip
      refine v_aload_n dX4_report_64 rfl rfl ?_
      refine v_iconst (v := nI 1) dX4_report_65 (by decide) ?_
      refine v_zV mtX4_refuse q1827 q1829 qs61 rfl (by decide) dX4_report_66 (c_X4_refuse hm ?_) (mK_obj hm) (by decide) (fun r66 h66 q66 z66 => ?_)
      · decide
      obtain ⟨rfl, rfl⟩ := q66
      exact v_reti dX4_report_69 rfl (by unfold sp_report; rw [hR]; rw [cf_t hz64]; exact ⟨rfl, rfl⟩)
    · skip
      refine v_aload_n dX4_report_5 rfl rfl ?_
      refine v_iload_n dX4_report_6 rfl rfl ?_
      refine v_pV mtX4_isPerson q1801 q1803 qs59 rfl (by decide) dX4_report_7 (c_X4_isPerson hm _) (mK_obj hm) (by decide) ?_
      refine v_if_eq (tgt := 64) dX4_report_10 (by decide) (fun b10 => ?_) (fun b10 => ?_)
      · skip
        exact hc64 (by (try simp only [b2i_0, b2i_n0] at *); (try simp only [th_4, th_33] at *); grind)
      · skip
        refine v_iload_n dX4_report_13 rfl rfl ?_
        refine v_i2l dX4_report_14 ?_
        refine v_lconst (v := (0 : Int32).toInt64) dX4_report_15 (by decide) ?_
        refine v_lconst (v := (1 : Int32).toInt64) dX4_report_16 (by decide) ?_
        refine v_pS mtX4_within q1790 q1791 dX4_report_17 (c_X4_within _ _ _) (by decide) ?_
        refine v_if_eq (tgt := 64) dX4_report_20 (by decide) (fun b20 => ?_) (fun b20 => ?_)
        · skip
          exact hc64 (by (try simp only [b2i_0, b2i_n0] at *); (try simp only [th_4, th_33] at *); grind)
        · skip
          refine v_iload_n dX4_report_23 rfl rfl ?_
          refine v_if_ne (tgt := 44) dX4_report_24 (by decide) (fun b24 => ?_) (fun b24 => ?_)
          · skip
            refine v_iload_n dX4_report_44 rfl rfl ?_
            refine v_iconst (v := 1) dX4_report_45 (by decide) ?_
            refine v_icmp_ne (tgt := 70) dX4_report_46 (by decide) (fun b46 => ?_) (fun b46 => ?_)
            · skip
              exact hc70 (by (try simp only [b2i_0, b2i_n0] at *); (try simp only [th_4, th_33] at *); grind)
            · skip
              refine v_aload_n dX4_report_49 rfl rfl ?_
              refine v_iload_n dX4_report_50 rfl rfl ?_
              refine v_pV mtX4_isHand q1835 q1837 qs62 rfl (by decide) dX4_report_51 (c_X4_isHand hm _) (mK_obj hm) (by decide) ?_
              refine v_if_eq (tgt := 64) dX4_report_54 (by decide) (fun b54 => ?_) (fun b54 => ?_)
              · skip
                exact hc64 (by (try simp only [b2i_0, b2i_n0] at *); (try simp only [th_4, th_33] at *); grind)
              · skip
                refine v_iload_n dX4_report_57 rfl rfl ?_
                refine v_iconst (v := 2) dX4_report_58 (by decide) ?_
                refine v_idiv dX4_report_59 (by decide) ?_
                refine v_iload_n dX4_report_60 rfl rfl ?_
                refine v_icmp_ne (tgt := 70) dX4_report_61 (by decide) (fun b61 => ?_) (fun b61 => ?_)
                · skip
                  exact hc70 (by (try simp only [b2i_0, b2i_n0] at *); (try simp only [th_4, th_33] at *); grind)
                · skip
                  exact hc64 (by (try simp only [b2i_0, b2i_n0] at *); (try simp only [th_4, th_33] at *); grind)
          · skip
            refine v_aload_n dX4_report_27 rfl rfl ?_
            refine v_iload_n dX4_report_28 rfl rfl ?_
            refine v_pV mtX4_isThing q1851 q1853 qs64 rfl (by decide) dX4_report_29 (c_X4_isThing hm _) (mK_obj hm) (by decide) ?_
            refine v_if_eq (tgt := 64) dX4_report_32 (by decide) (fun b32 => ?_) (fun b32 => ?_)
            · skip
              exact hc64 (by (try simp only [b2i_0, b2i_n0] at *); (try simp only [th_4, th_33] at *); grind)
            · skip
              refine v_aload_n dX4_report_35 rfl rfl ?_
              refine v_iload dX4_report_36 rfl ?_
              refine v_pV mtX4_isSpot q1819 q1821 qs60 rfl (by decide) dX4_report_38 (c_X4_isSpot hm _) (mK_obj hm) (by decide) ?_
              refine v_if_eq (tgt := 64) dX4_report_41 (by decide) (fun b41 => ?_) (fun b41 => ?_)
              · skip
                exact hc64 (by (try simp only [b2i_0, b2i_n0] at *); (try simp only [th_4, th_33] at *); grind)
              · skip
                refine v_iload_n dX4_report_44 rfl rfl ?_
                refine v_iconst (v := 1) dX4_report_45 (by decide) ?_
                refine v_icmp_ne (tgt := 70) dX4_report_46 (by decide) (fun b46 => ?_) (fun b46 => ?_)
                · skip
                  exact hc70 (by (try simp only [b2i_0, b2i_n0] at *); (try simp only [th_4, th_33] at *); grind)
                · skip
                  refine v_aload_n dX4_report_49 rfl rfl ?_
                  refine v_iload_n dX4_report_50 rfl rfl ?_
                  refine v_pV mtX4_isHand q1835 q1837 qs62 rfl (by decide) dX4_report_51 (c_X4_isHand hm _) (mK_obj hm) (by decide) ?_
                  refine v_if_eq (tgt := 64) dX4_report_54 (by decide) (fun b54 => ?_) (fun b54 => ?_)
                  · skip
                    exact hc64 (by (try simp only [b2i_0, b2i_n0] at *); (try simp only [th_4, th_33] at *); grind)
                  · skip
                    refine v_iload_n dX4_report_57 rfl rfl ?_
                    refine v_iconst (v := 2) dX4_report_58 (by decide) ?_
                    refine v_idiv dX4_report_59 (by decide) ?_
                    refine v_iload_n dX4_report_60 rfl rfl ?_
                    refine v_icmp_ne (tgt := 70) dX4_report_61 (by decide) (fun b61 => ?_) (fun b61 => ?_)
                    · skip
                      exact hc70 (by (try simp only [b2i_0, b2i_n0] at *); (try simp only [th_4, th_33] at *); grind)
                    · skip
                      exact hc64 (by (try simp only [b2i_0, b2i_n0] at *); (try simp only [th_4, th_33] at *); grind)

theorem k02 {k : Int32} (h : 0 ≤ k ∧ k ≤ 2) : k = 0 ∨ k = 1 ∨ k = 2 := by
  obtain ⟨n, h1, rfl⟩ := nI_rngE (n := 2) h (by decide)
  rcases (show n = 0 ∨ n = 1 ∨ n = 2 by omega) with e | e | e <;> subst e
  · exact Or.inl rfl
  · exact Or.inr (Or.inl rfl)
  · exact Or.inr (Or.inr rfl)
theorem k02' {k : Int32} (h : ¬ (0 ≤ k ∧ k ≤ 2)) : ¬ (k = 0 ∨ k = 1 ∨ k = 2) := fun z => by rcases z with e | e | e <;> subst e <;> exact h (by decide)
set_option maxHeartbeats 1000000 in
theorem c_X4_control {G : Gv} {h : AH} (hm : MI h) {nC : Nat} (hC : hp_I h 241 48 = nI nC) (hn : nC ≤ 8) (k a v c e g : Int32) : Ctr G 3 yX4_control cX4_control 7 (some .int) [.ref 241, .int k, .int a, .int v, .int c, .int e, .int g] h 0 0 (Pr (sp_control h k a v c e g)) := by
  refine ctr_of (own := RX4) (nm := "control") (by decide) (Nat.le_of_ble_eq_true rfl) ?_
  have e48 : hp_I (th_ h) 241 48 = nI nC := hC
  refine v_aload_n dX4_control_0 rfl rfl ?_
  refine v_iconst (v := 0) dX4_control_1 (by decide) ?_
  refine v_thr fX4_1 dX4_control_2 hm ?_
  have hm := MI_th hm
  refine v_cut 56 ((k = 0 ∧ (0 ≤ a ∧ a < 2 * hp_I h 241 4)) ∨ k = 1 ∨ (k = 2 ∧ (0 ≤ a ∧ a < hp_I h 241 4) ∧ (0 ≤ v ∧ v ≤ hp_I h 241 4))) (fun hz56 => ?_) (fun hc56 => ?_)
  · skip
    refine v_cut 102 ((k = 1 → 0 ≤ v ∧ v ≤ 9) ∧ (0 ≤ c ∧ c ≤ e ∧ e ≤ 99) ∧ (1 ≤ g ∧ g ≤ 1000)) (fun hz102 => ?_) (fun hc102 => ?_)
    · skip
      refine v_aload_n dX4_control_102 rfl rfl ?_
      refine v_getI fX4_122 dX4_control_103 (mK_obj hm) ?_
      rw [show hp_I (th_ h) 241 48 = nI nC from hC]
      refine v_bipush (v := 8) dX4_control_106 (by decide) ?_
      refine v_icmp_ne (tgt := 117) dX4_control_108 (by decide) (fun b108 => ?_) (fun b108 => ?_)
      · skip
        have hC3 : nC ≠ 8 := fun z => b108 (by rw [z]; rfl)
        refine v_aload_n dX4_control_117 rfl rfl ?_
        refine v_getR fX4_85 dX4_control_118 (mK_obj hm) (mR_controlKind hm) ?_ fcA_I
        refine v_aload_n dX4_control_121 rfl rfl ?_
        refine v_getI fX4_122 dX4_control_122 (mK_obj hm) ?_
        rw [show hp_I (th_ h) 241 48 = nI nC from hC]
        refine v_iload_n dX4_control_125 rfl rfl ?_
        refine v_iast dX4_control_126 (mK_controlKind hm) rfl (by first | assumption | omega) ?_
        refine v_aload_n dX4_control_127 rfl rfl ?_
        refine v_getR fX4_88 dX4_control_128 (mK_obj hm) (mR_controlWhat hm) ?_ fcA_I
        refine v_aload_n dX4_control_131 rfl rfl ?_
        refine v_getI fX4_122 dX4_control_132 (mK_obj hm) ?_
        rw [show hp_I (up_I (th_ h) 263 nC k) 241 48 = nI nC from hC]
        refine v_iload_n dX4_control_135 rfl rfl ?_
        refine v_iast dX4_control_136 (mK_controlWhat hm) rfl (by first | assumption | omega) ?_
        refine v_aload_n dX4_control_137 rfl rfl ?_
        refine v_getR fX4_91 dX4_control_138 (mK_obj hm) (mR_controlV hm) ?_ fcA_I
        refine v_aload_n dX4_control_141 rfl rfl ?_
        refine v_getI fX4_122 dX4_control_142 (mK_obj hm) ?_
        rw [show hp_I (up_I (up_I (th_ h) 263 nC k) 264 nC a) 241 48 = nI nC from hC]
        refine v_iload_n dX4_control_145 rfl rfl ?_
        refine v_iast dX4_control_146 (mK_controlV hm) rfl (by first | assumption | omega) ?_
        refine v_aload_n dX4_control_147 rfl rfl ?_
        refine v_getR fX4_94 dX4_control_148 (mK_obj hm) (mR_controlFrom hm) ?_ fcA_I
        refine v_aload_n dX4_control_151 rfl rfl ?_
        refine v_getI fX4_122 dX4_control_152 (mK_obj hm) ?_
        rw [show hp_I (up_I (up_I (up_I (th_ h) 263 nC k) 264 nC a) 265 nC v) 241 48 = nI nC from hC]
        refine v_iload dX4_control_155 rfl ?_
        refine v_iast dX4_control_157 (mK_controlFrom hm) rfl (by first | assumption | omega) ?_
        refine v_aload_n dX4_control_158 rfl rfl ?_
        refine v_getR fX4_97 dX4_control_159 (mK_obj hm) (mR_controlTo hm) ?_ fcA_I
        refine v_aload_n dX4_control_162 rfl rfl ?_
        refine v_getI fX4_122 dX4_control_163 (mK_obj hm) ?_
        rw [show hp_I (up_I (up_I (up_I (up_I (th_ h) 263 nC k) 264 nC a) 265 nC v) 266 nC c) 241 48 = nI nC from hC]
        refine v_iload dX4_control_166 rfl ?_
        refine v_iast dX4_control_168 (mK_controlTo hm) rfl (by first | assumption | omega) ?_
        refine v_aload_n dX4_control_169 rfl rfl ?_
        refine v_getR fX4_100 dX4_control_170 (mK_obj hm) (mR_controlCost hm) ?_ fcA_I
        refine v_aload_n dX4_control_173 rfl rfl ?_
        refine v_getI fX4_122 dX4_control_174 (mK_obj hm) ?_
        rw [show hp_I (up_I (up_I (up_I (up_I (up_I (th_ h) 263 nC k) 264 nC a) 265 nC v) 266 nC c) 267 nC e) 241 48 = nI nC from hC]
        refine v_iload dX4_control_177 rfl ?_
        refine v_iast dX4_control_179 (mK_controlCost hm) rfl (by first | assumption | omega) ?_
        refine v_aload_n dX4_control_180 rfl rfl ?_
        refine v_dup dX4_control_181 rfl ?_
        refine v_getI fX4_122 dX4_control_182 (mK_obj hm) ?_
        rw [show hp_I (up_I (up_I (up_I (up_I (up_I (up_I (th_ h) 263 nC k) 264 nC a) 265 nC v) 266 nC c) 267 nC e) 268 nC g) 241 48 = nI nC from hC]
        refine v_iconst (v := 1) dX4_control_185 (by decide) ?_
        refine v_iadd dX4_control_186 ?_
        rw [nI_1]
        refine v_putI fX4_122 (.inl rfl) dX4_control_187 (mK_obj hm) ?_
        refine v_aload_n dX4_control_190 rfl rfl ?_
        refine v_getI fX4_122 dX4_control_191 (mK_obj hm) ?_
        rw [hp_I_I, if_pos ⟨rfl, rfl⟩]
        refine v_iconst (v := 1) dX4_control_194 (by decide) ?_
        refine v_isub dX4_control_195 ?_
        rw [nI_pred]
        exact v_reti dX4_control_196 rfl (by unfold sp_control; rw [hC]; rw [cf_f (fun z => z hz56), cf_f (fun z => z hz102), cf_f (fun z => hC3 ((nI_eqL (by omega) (by decide)).mp z)), nI_clamp (by omega)]; exact ⟨rfl, rfl⟩)
      · skip
        have hC3 : nC = 8 := (nI_eqL (by omega) (by decide)).mp b108
        refine v_aload_n dX4_control_111 rfl rfl ?_
        refine v_iconst (v := nI 3) dX4_control_112 (by decide) ?_
        refine v_zV mtX4_refuse q1827 q1829 qs61 rfl (by decide) dX4_control_113 (c_X4_refuse hm ?_) (mK_obj hm) (by decide) (fun r113 h113 q113 z113 => ?_)
        · decide
        obtain ⟨rfl, rfl⟩ := q113
        subst hC3
        exact v_reti dX4_control_116 rfl (by unfold sp_control; rw [hC]; rw [cf_f (fun z => z hz56), cf_f (fun z => z hz102), cf_t (by decide)]; exact ⟨rfl, rfl⟩)
    · skip
      refine v_cut 96 (¬ ((k = 1 → 0 ≤ v ∧ v ≤ 9) ∧ (0 ≤ c ∧ c ≤ e ∧ e ≤ 99) ∧ (1 ≤ g ∧ g ≤ 1000))) (fun hz96 => ?_) (fun hc96 => ?_)
      · skip
        refine v_aload_n dX4_control_96 rfl rfl ?_
        refine v_iconst (v := nI 2) dX4_control_97 (by decide) ?_
        refine v_zV mtX4_refuse q1827 q1829 qs61 rfl (by decide) dX4_control_98 (c_X4_refuse hm ?_) (mK_obj hm) (by decide) (fun r98 h98 q98 z98 => ?_)
        · decide
        obtain ⟨rfl, rfl⟩ := q98
        exact v_reti dX4_control_101 rfl (by unfold sp_control; rw [hC]; rw [cf_f (fun z => z hz56), cf_t hz96]; exact ⟨rfl, rfl⟩)
      · skip
        refine v_iload_n dX4_control_56 rfl rfl ?_
        refine v_iconst (v := 1) dX4_control_57 (by decide) ?_
        refine v_icmp_ne (tgt := 73) dX4_control_58 (by decide) (fun b58 => ?_) (fun b58 => ?_)
        · skip
          refine v_iload dX4_control_73 rfl ?_
          refine v_iload dX4_control_75 rfl ?_
          refine v_pS mtX4_areSeconds q1809 q1810 dX4_control_77 (c_X4_areSeconds _ _) (by decide) ?_
          refine v_if_eq (tgt := 96) dX4_control_80 (by decide) (fun b80 => ?_) (fun b80 => ?_)
          · skip
            exact hc96 (by (try simp only [b2i_0, b2i_n0] at *); (try simp only [th_4, th_33] at *); first | grind | (have k3 := k3; grind))
          · skip
            refine v_iload dX4_control_83 rfl ?_
            refine v_i2l dX4_control_85 ?_
            refine v_lconst (v := (1 : Int32).toInt64) dX4_control_86 (by decide) ?_
            refine v_ldc2 (v := (1000 : Int32).toInt64) q2153 dX4_control_87 (by decide) ?_
            refine v_pS mtX4_within q1790 q1791 dX4_control_90 (c_X4_within _ _ _) (by decide) ?_
            refine v_if_ne (tgt := 102) dX4_control_93 (by decide) (fun b93 => ?_) (fun b93 => ?_)
            · skip
              exact hc102 (by (try simp only [b2i_0, b2i_n0] at *); (try simp only [th_4, th_33] at *); first | grind | (have k3 := k3; grind))
            · skip
              exact hc96 (by (try simp only [b2i_0, b2i_n0] at *); (try simp only [th_4, th_33] at *); first | grind | (have k3 := k3; grind))
        · skip
          refine v_iload_n dX4_control_61 rfl rfl ?_
          refine v_i2l dX4_control_62 ?_
          refine v_lconst (v := (0 : Int32).toInt64) dX4_control_63 (by decide) ?_
          refine v_ldc2 (v := (9 : Int32).toInt64) q1789 dX4_control_64 (by decide) ?_
          refine v_pS mtX4_within q1790 q1791 dX4_control_67 (c_X4_within _ _ _) (by decide) ?_
          refine v_if_eq (tgt := 96) dX4_control_70 (by decide) (fun b70 => ?_) (fun b70 => ?_)
          · skip
            exact hc96 (by (try simp only [b2i_0, b2i_n0] at *); (try simp only [th_4, th_33] at *); first | grind | (have k3 := k3; grind))
          · skip
            refine v_iload dX4_control_73 rfl ?_
            refine v_iload dX4_control_75 rfl ?_
            refine v_pS mtX4_areSeconds q1809 q1810 dX4_control_77 (c_X4_areSeconds _ _) (by decide) ?_
            refine v_if_eq (tgt := 96) dX4_control_80 (by decide) (fun b80 => ?_) (fun b80 => ?_)
            · skip
              exact hc96 (by (try simp only [b2i_0, b2i_n0] at *); (try simp only [th_4, th_33] at *); first | grind | (have k3 := k3; grind))
            · skip
              refine v_iload dX4_control_83 rfl ?_
              refine v_i2l dX4_control_85 ?_
              refine v_lconst (v := (1 : Int32).toInt64) dX4_control_86 (by decide) ?_
              refine v_ldc2 (v := (1000 : Int32).toInt64) q2153 dX4_control_87 (by decide) ?_
              refine v_pS mtX4_within q1790 q1791 dX4_control_90 (c_X4_within _ _ _) (by decide) ?_
              refine v_if_ne (tgt := 102) dX4_control_93 (by decide) (fun b93 => ?_) (fun b93 => ?_)
              · skip
                exact hc102 (by (try simp only [b2i_0, b2i_n0] at *); (try simp only [th_4, th_33] at *); first | grind | (have k3 := k3; grind))
              · skip
                exact hc96 (by (try simp only [b2i_0, b2i_n0] at *); (try simp only [th_4, th_33] at *); first | grind | (have k3 := k3; grind))
  · skip
    refine v_cut 50 (¬ ((k = 0 ∧ (0 ≤ a ∧ a < 2 * hp_I h 241 4)) ∨ k = 1 ∨ (k = 2 ∧ (0 ≤ a ∧ a < hp_I h 241 4) ∧ (0 ≤ v ∧ v ≤ hp_I h 241 4)))) (fun hz50 => ?_) (fun hc50 => ?_)
    · skip
      refine v_aload_n dX4_control_50 rfl rfl ?_
      refine v_iconst (v := nI 1) dX4_control_51 (by decide) ?_
      refine v_zV mtX4_refuse q1827 q1829 qs61 rfl (by decide) dX4_control_52 (c_X4_refuse hm ?_) (mK_obj hm) (by decide) (fun r52 h52 q52 z52 => ?_)
      · decide
      obtain ⟨rfl, rfl⟩ := q52
      exact v_reti dX4_control_55 rfl (by unfold sp_control; rw [hC]; rw [cf_t hz50]; exact ⟨rfl, rfl⟩)
    · skip
      refine v_iload_n dX4_control_5 rfl rfl ?_
      refine v_i2l dX4_control_6 ?_
      refine v_lconst (v := (0 : Int32).toInt64) dX4_control_7 (by decide) ?_
      refine v_ldc2 (v := (2 : Int32).toInt64) q1919 dX4_control_8 (by decide) ?_
      refine v_pS mtX4_within q1790 q1791 dX4_control_11 (c_X4_within _ _ _) (by decide) ?_
      refine v_if_eq (tgt := 50) dX4_control_14 (by decide) (fun b14 => ?_) (fun b14 => ?_)
      · skip
        have k3 := k02' (b2i_0.mp b14)
        exact hc50 (by (try simp only [b2i_0, b2i_n0] at *); (try simp only [th_4, th_33] at *); first | grind | (have k3 := k3; grind))
      · skip
        have k3 := k02 (b2i_n0.mp b14)
        refine v_iload_n dX4_control_17 rfl rfl ?_
        refine v_if_ne (tgt := 29) dX4_control_18 (by decide) (fun b18 => ?_) (fun b18 => ?_)
        · skip
          refine v_iload_n dX4_control_29 rfl rfl ?_
          refine v_iconst (v := 2) dX4_control_30 (by decide) ?_
          refine v_icmp_ne (tgt := 56) dX4_control_31 (by decide) (fun b31 => ?_) (fun b31 => ?_)
          · skip
            exact hc56 (by (try simp only [b2i_0, b2i_n0] at *); (try simp only [th_4, th_33] at *); first | grind | (have k3 := k3; grind))
          · skip
            refine v_aload_n dX4_control_34 rfl rfl ?_
            refine v_iload_n dX4_control_35 rfl rfl ?_
            refine v_pV mtX4_isPerson q1801 q1803 qs59 rfl (by decide) dX4_control_36 (c_X4_isPerson hm _) (mK_obj hm) (by decide) ?_
            refine v_if_eq (tgt := 50) dX4_control_39 (by decide) (fun b39 => ?_) (fun b39 => ?_)
            · skip
              exact hc50 (by (try simp only [b2i_0, b2i_n0] at *); (try simp only [th_4, th_33] at *); first | grind | (have k3 := k3; grind))
            · skip
              refine v_aload_n dX4_control_42 rfl rfl ?_
              refine v_iload_n dX4_control_43 rfl rfl ?_
              refine v_pV mtX4_isSpot q1819 q1821 qs60 rfl (by decide) dX4_control_44 (c_X4_isSpot hm _) (mK_obj hm) (by decide) ?_
              refine v_if_ne (tgt := 56) dX4_control_47 (by decide) (fun b47 => ?_) (fun b47 => ?_)
              · skip
                exact hc56 (by (try simp only [b2i_0, b2i_n0] at *); (try simp only [th_4, th_33] at *); first | grind | (have k3 := k3; grind))
              · skip
                exact hc50 (by (try simp only [b2i_0, b2i_n0] at *); (try simp only [th_4, th_33] at *); first | grind | (have k3 := k3; grind))
        · skip
          refine v_aload_n dX4_control_21 rfl rfl ?_
          refine v_iload_n dX4_control_22 rfl rfl ?_
          refine v_pV mtX4_isHand q1835 q1837 qs62 rfl (by decide) dX4_control_23 (c_X4_isHand hm _) (mK_obj hm) (by decide) ?_
          refine v_if_eq (tgt := 50) dX4_control_26 (by decide) (fun b26 => ?_) (fun b26 => ?_)
          · skip
            exact hc50 (by (try simp only [b2i_0, b2i_n0] at *); (try simp only [th_4, th_33] at *); first | grind | (have k3 := k3; grind))
          · skip
            refine v_iload_n dX4_control_29 rfl rfl ?_
            refine v_iconst (v := 2) dX4_control_30 (by decide) ?_
            refine v_icmp_ne (tgt := 56) dX4_control_31 (by decide) (fun b31 => ?_) (fun b31 => ?_)
            · skip
              exact hc56 (by (try simp only [b2i_0, b2i_n0] at *); (try simp only [th_4, th_33] at *); first | grind | (have k3 := k3; grind))
            · skip
              refine v_aload_n dX4_control_34 rfl rfl ?_
              refine v_iload_n dX4_control_35 rfl rfl ?_
              refine v_pV mtX4_isPerson q1801 q1803 qs59 rfl (by decide) dX4_control_36 (c_X4_isPerson hm _) (mK_obj hm) (by decide) ?_
              refine v_if_eq (tgt := 50) dX4_control_39 (by decide) (fun b39 => ?_) (fun b39 => ?_)
              · skip
                exact hc50 (by (try simp only [b2i_0, b2i_n0] at *); (try simp only [th_4, th_33] at *); first | grind | (have k3 := k3; grind))
              · skip
                refine v_aload_n dX4_control_42 rfl rfl ?_
                refine v_iload_n dX4_control_43 rfl rfl ?_
                refine v_pV mtX4_isSpot q1819 q1821 qs60 rfl (by decide) dX4_control_44 (c_X4_isSpot hm _) (mK_obj hm) (by decide) ?_
                refine v_if_ne (tgt := 56) dX4_control_47 (by decide) (fun b47 => ?_) (fun b47 => ?_)
                · skip
                  exact hc56 (by (try simp only [b2i_0, b2i_n0] at *); (try simp only [th_4, th_33] at *); first | grind | (have k3 := k3; grind))
                · skip
                  exact hc50 (by (try simp only [b2i_0, b2i_n0] at *); (try simp only [th_4, th_33] at *); first | grind | (have k3 := k3; grind))

set_option maxHeartbeats 1000000 in
theorem c_X4_feed {G : Gv} {h : AH} (hm : MI h) {nT : Nat} (hT : hp_I h 241 14 = nI nT) (hn : nT ≤ 400) (a b c e g : Int32) : Ctr G 1 yX4_feed cX4_feed 8 (some .int) [.ref 241, .int a, .int b, .int c, .int e, .int g] h 0 0 (Pr (sp_feed h a b c e g)) := by
  refine ctr_of (own := RX4) (nm := "feed") (by decide) (Nat.le_of_ble_eq_true rfl) ?_
  have e14 : hp_I (th_ h) 241 14 = nI nT := hT
  refine v_aload_n dX4_feed_0 rfl rfl ?_
  refine v_iconst (v := 0) dX4_feed_1 (by decide) ?_
  refine v_thr fX4_1 dX4_feed_2 hm ?_
  have hm := MI_th hm
  refine v_aload_n dX4_feed_5 rfl rfl ?_
  refine v_getI fX4_202 dX4_feed_6 (mK_obj hm) ?_
  rw [e14]
  refine v_bipush (v := 20) dX4_feed_9 (by decide) ?_
  refine v_iadd dX4_feed_11 ?_
  rw [show nI nT + 20 = nI (nT + 20) from nI_add nT 20]
  refine v_sipush (v := nI 400) dX4_feed_12 (by decide) ?_
  refine v_icmp_le (tgt := 20) dX4_feed_15 (by decide) (fun b15 => ?_) (fun b15 => ?_)
  · skip
    have hT3 : nT + 20 ≤ 400 := (nI_leI (by omega) (by omega)).mp b15
    refine v_iconst (v := 0) dX4_feed_20 (by decide) ?_
    refine v_istore dX4_feed_21 (by decide) ?_
    refine v_loc2 (by repeat' (first | with_reducible exact lsub_n | with_reducible refine lsub_c ?_ ?_ | with_reducible refine lk_hit ?_ | with_reducible refine lk_miss (by decide) ?_ ?_ | exact rfl)) (v_lp2 (fun (i : Nat) (hh : AH) => 20 - i) (fun (i : Nat) (hh : AH) => i ≤ 20 ∧ hh = up_I (up_IA (th_ h) 253 (tp_ (hp_I h 253) nT a b c e g i)) 241 14 (nI (nT + i))) (fun (i : Nat) (hh : AH) => [(0, .ref 241), (1, .int a), (2, .int b), (3, .int c), (4, .int e), (5, .int g), (6, .int (nI i))]) (fun (i : Nat) (hh : AH) => hh) ?_ 0 _ ⟨Nat.zero_le _, by rw [tp_0, Nat.add_zero, ← e14, show hp_I h 253 = hp_I (th_ h) 253 from (th_A (by decide)).symm, IA_id, I_id]⟩)
    intro i hh hI IH
    obtain ⟨hI, rfl⟩ := hI
    have hm : MI (up_I (up_IA (th_ h) 253 (tp_ (hp_I h 253) nT a b c e g i)) 241 14 (nI (nT + i))) := hm
    refine v_iload dX4_feed_23 rfl ?_
    refine v_bipush (v := nI 20) dX4_feed_25 (by decide) ?_
    refine v_icmp_ge (tgt := 120) dX4_feed_27 (by decide) (fun b27 => ?_) (fun b27 => ?_)
    · skip
      rw [nI_leI (by omega) (by omega)] at b27
      have hk : 20 = i := by omega
      subst hk
      refine v_aload_n dX4_feed_120 rfl rfl ?_
      refine v_getI fX4_202 dX4_feed_121 (mK_obj hm) ?_
      rw [show hp_I (up_I (up_IA (th_ h) 253 (tp_ (hp_I h 253) nT a b c e g 20)) 241 14 (nI (nT + 20))) 241 14 = nI (nT + 20) from by rw [hp_I_I, if_pos ⟨rfl, rfl⟩]]
      have e20 : nI nT + 20 = nI (nT + 20) := nI_add nT 20
      exact v_reti dX4_feed_124 rfl (by unfold sp_feed; rw [hT]; rw [cf_f (fun z => by have := (nI_ltI (a := 380) (by omega) (by omega)).mp z; omega), e20, nI_clamp (by omega)]; exact ⟨rfl, rfl⟩)
    · skip
      rw [nI_leI (by omega) (by omega)] at b27
      have hk : i < 20 := by omega
      refine v_join 76 (fun z => z = (if i < 4 then a else if i < 8 then b else if i < 12 then c else if i < 16 then e else g)) (fun z hz => ?_) (fun hj76 => ?_)
      · skip
        subst hz
        refine v_istore dX4_feed_76 (by decide) ?_
        refine v_aload_n dX4_feed_78 rfl rfl ?_
        refine v_getR fX4_51 dX4_feed_79 (mK_obj hm) (mR_tape hm) ?_ fcA_I
        refine v_aload_n dX4_feed_82 rfl rfl ?_
        refine v_getI fX4_202 dX4_feed_83 (mK_obj hm) ?_
        rw [show hp_I (up_I (up_IA (th_ h) 253 (tp_ (hp_I h 253) nT a b c e g i)) 241 14 (nI (nT + i))) 241 14 = nI (nT + i) from by rw [hp_I_I, if_pos ⟨rfl, rfl⟩]]
        refine v_iload dX4_feed_86 rfl ?_
        refine v_bipush (v := nI 24) dX4_feed_88 (by decide) ?_
        refine v_bipush (v := nI 8) dX4_feed_90 (by decide) ?_
        refine v_iload dX4_feed_92 rfl ?_
        refine v_iconst (v := nI 4) dX4_feed_94 (by decide) ?_
        refine v_irem dX4_feed_95 (by decide) ?_
        rw [pk_rem (by omega) (by decide) (by decide)]
        refine v_imul dX4_feed_96 ?_
        rw [pk_mul]
        refine v_isub dX4_feed_97 ?_
        rw [pk_sub (by omega)]
        refine v_ishr dX4_feed_98 ?_
        refine v_sipush (v := 255) dX4_feed_99 (by decide) ?_
        refine v_iand dX4_feed_102 ?_
        refine v_iast dX4_feed_103 (mK_tape hm) rfl (by first | assumption | omega) ?_
        refine v_aload_n dX4_feed_104 rfl rfl ?_
        refine v_dup dX4_feed_105 rfl ?_
        refine v_getI fX4_202 dX4_feed_106 (mK_obj hm) ?_
        rw [show ∀ v, hp_I (up_I (up_I (up_IA (th_ h) 253 (tp_ (hp_I h 253) nT a b c e g i)) 241 14 (nI (nT + i))) 253 (nT + i) v) 241 14 = nI (nT + i) from fun v => by rw [hp_I_I, if_neg (by omega), hp_I_I, if_pos ⟨rfl, rfl⟩]]
        refine v_iconst (v := 1) dX4_feed_109 (by decide) ?_
        refine v_iadd dX4_feed_110 ?_
        rw [nI_1]
        refine v_putI fX4_202 (.inl rfl) dX4_feed_111 (mK_obj hm) ?_
        refine v_iinc dX4_feed_114 rfl (by first | with_reducible exact nI_inc _ | exact rfl) (by decide) ?_
        refine v_goto (tgt := 23) dX4_feed_117 (by decide) ?_
        refine v_loc2 (by repeat' (first | with_reducible exact lsub_n | with_reducible refine lsub_c ?_ ?_ | with_reducible refine lk_hit ?_ | with_reducible refine lk_miss (by decide) ?_ ?_ | exact rfl)) (IH (i + 1) _ ⟨by omega, ?_⟩ (by omega))
        rw [fd_sw, ← Nat.add_assoc]
        exact congrArg (fun z => up_I (up_IA (th_ h) 253 z) 241 14 (nI (nT + i + 1))) (tp_s (hp_I h 253) nT a b c e g i)
      · skip
        refine v_iload dX4_feed_30 rfl ?_
        refine v_iconst (v := nI 4) dX4_feed_32 (by decide) ?_
        refine v_icmp_ge (tgt := 40) dX4_feed_33 (by decide) (fun b33 => ?_) (fun b33 => ?_)
        · skip
          refine v_iload dX4_feed_40 rfl ?_
          refine v_bipush (v := nI 8) dX4_feed_42 (by decide) ?_
          refine v_icmp_ge (tgt := 51) dX4_feed_44 (by decide) (fun b44 => ?_) (fun b44 => ?_)
          · skip
            refine v_iload dX4_feed_51 rfl ?_
            refine v_bipush (v := nI 12) dX4_feed_53 (by decide) ?_
            refine v_icmp_ge (tgt := 62) dX4_feed_55 (by decide) (fun b55 => ?_) (fun b55 => ?_)
            · skip
              refine v_iload dX4_feed_62 rfl ?_
              refine v_bipush (v := nI 16) dX4_feed_64 (by decide) ?_
              refine v_icmp_ge (tgt := 74) dX4_feed_66 (by decide) (fun b66 => ?_) (fun b66 => ?_)
              · skip
                refine v_iload dX4_feed_74 rfl ?_
                exact hj76 _ (by (try rw [nI_leI (by omega) (by omega)] at *); grind)
              · skip
                refine v_iload dX4_feed_69 rfl ?_
                refine v_goto (tgt := 76) dX4_feed_71 (by decide) ?_
                exact hj76 _ (by (try rw [nI_leI (by omega) (by omega)] at *); grind)
            · skip
              refine v_iload_n dX4_feed_58 rfl rfl ?_
              refine v_goto (tgt := 76) dX4_feed_59 (by decide) ?_
              exact hj76 _ (by (try rw [nI_leI (by omega) (by omega)] at *); grind)
          · skip
            refine v_iload_n dX4_feed_47 rfl rfl ?_
            refine v_goto (tgt := 76) dX4_feed_48 (by decide) ?_
            exact hj76 _ (by (try rw [nI_leI (by omega) (by omega)] at *); grind)
        · skip
          refine v_iload_n dX4_feed_36 rfl rfl ?_
          refine v_goto (tgt := 76) dX4_feed_37 (by decide) ?_
          exact hj76 _ (by (try rw [nI_leI (by omega) (by omega)] at *); grind)
  · skip
    have hT3 : ¬ nT + 20 ≤ 400 := fun z => b15 ((nI_leI (by omega) (by omega)).mpr z)
    refine v_iconst (v := (-1)) dX4_feed_18 (by decide) ?_
    exact v_reti dX4_feed_19 rfl (by unfold sp_feed; rw [hT]; rw [cf_t (show (380 : Int32) < nI nT from (nI_ltI (a := 380) (by omega) (by omega)).mpr (by omega))]; exact ⟨rfl, rfl⟩)

