set_option maxRecDepth 100000
theorem v_kd {G : Gv} {d : Nat} {own nm : String} {cc : ByteArray} {nL : Nat} {ret : Option FieldType} {mc ms : Nat} {Q : Option Value → AH → Prop} {pc : Nat} {l : List (Nat × Value)} {st : List Value} {h : AH} (k : kd_ok h → Vv G d own nm cc nL ret mc ms Q pc l st h) : Vv G d own nm cc nL ret mc ms Q pc l st h := fun pg e R s m args below meth c Z ad0 n0 hC hE ad H locs cells slots ls S V => k S.1.2.2.2.2.1 pg e R s m args below meth c Z ad0 n0 hC hE ad H locs cells slots ls S V
/-- the places stay as they were, but for some -/
def FR_ (P : Nat → Prop) (h h1 : AH) : Prop := hp_n h ≤ hp_n h1 ∧ (∀ q, q < hp_n h → hp_K h1 q = hp_K h q) ∧ ∀ q, q < hp_n h → ¬ P q → sm_ h h1 q
theorem FR_rf {P : Nat → Prop} {h : AH} : FR_ P h h := ⟨Nat.le_refl _, fun _ _ => rfl, fun _ _ _ => ⟨rfl, fun _ => rfl, fun _ => rfl, fun _ => rfl⟩⟩
theorem sm_tr {h h1 h2 : AH} {q : Nat} (a : sm_ h h1 q) (b : sm_ h1 h2 q) : sm_ h h2 q := ⟨b.1.trans a.1, fun k => (b.2.1 k).trans (a.2.1 k), fun k => (b.2.2.1 k).trans (a.2.2.1 k), fun k => (b.2.2.2 k).trans (a.2.2.2 k)⟩
theorem FR_tr {P P' : Nat → Prop} {h h1 h2 : AH} (a : FR_ P h h1) (b : FR_ P' h1 h2) (hp : ∀ q, q < hp_n h → P' q → P q) : FR_ P h h2 := ⟨Nat.le_trans a.1 b.1, fun q hq => (b.2.1 q (Nat.lt_of_lt_of_le hq a.1)).trans (a.2.1 q hq), fun q hq hn => sm_tr (a.2.2 q hq hn) (b.2.2 q (Nat.lt_of_lt_of_le hq a.1) (fun z => hn (hp q hq z)))⟩
theorem FR_w {P P' : Nat → Prop} {h h1 : AH} (a : FR_ P h h1) (hp : ∀ q, q < hp_n h → P q → P' q) : FR_ P' h h1 := ⟨a.1, a.2.1, fun q hq hn => a.2.2 q hq (fun z => hn (hp q hq z))⟩
theorem FR_I {P : Nat → Prop} {h : AH} {p k : Nat} {v : Int32} (hp : P p) : FR_ P h (up_I h p k v) := ⟨Nat.le_refl _, fun _ _ => rfl, fun q _ hn => sm_I q (fun z => hn (by rw [z]; exact hp))⟩
theorem FR_L {P : Nat → Prop} {h : AH} {p k : Nat} {v : Int64} (hp : P p) : FR_ P h (up_L h p k v) := ⟨Nat.le_refl _, fun _ _ => rfl, fun q _ hn => sm_L q (fun z => hn (by rw [z]; exact hp))⟩
theorem FR_R {P : Nat → Prop} {h : AH} {p k : Nat} {v : Option Nat} (hp : P p) : FR_ P h (up_R h p k v) := ⟨Nat.le_refl _, fun _ _ => rfl, fun q _ hn => sm_R q (fun z => hn (by rw [z]; exact hp))⟩
theorem FR_IA {P : Nat → Prop} {h : AH} {p : Nat} {f : Nat → Int32} (hp : P p) : FR_ P h (up_IA h p f) := ⟨Nat.le_refl _, fun _ _ => rfl, fun q _ hn => sm_IA q (fun z => hn (by rw [z]; exact hp))⟩
theorem FR_RA {P : Nat → Prop} {h : AH} {p : Nat} {f : Nat → Option Nat} (hp : P p) : FR_ P h (up_RA h p f) := ⟨Nat.le_refl _, fun _ _ => rfl, fun q _ hn => sm_RA q (fun z => hn (by rw [z]; exact hp))⟩
theorem FR_new {P : Nat → Prop} {h : AH} {t : Nat × Nat} : FR_ P h (hp_new h t) := ⟨Nat.le_succ _, fun q hq => (if_neg (by show ¬ q = hp_n h; omega)), fun q hq _ => ⟨(if_neg (by show ¬ q = hp_n h; omega)), fun k => (if_neg (by show ¬ q = hp_n h; omega)), fun k => (if_neg (by show ¬ q = hp_n h; omega)), fun k => (if_neg (by show ¬ q = hp_n h; omega))⟩⟩
/-- a list: of n things f 0 .. f (n - 1) -/
def AL_ (h : AH) (L D c n : Nat) (f : Nat → Nat) : Prop := hp_K h L = (25, 0) ∧ hp_R h L 1 = some D ∧ hp_I h L 2 = nI n ∧ hp_K h D = (107, c) ∧ n ≤ c ∧ (1 ≤ c ∧ c ≤ 100) ∧ (∀ k, hp_R h D k = if k < n then some (f k) else none) ∧ ∀ k, k < n → ob_ok h (f k)
theorem ob_fr {P : Nat → Prop} {h h1 : AH} {z : Nat} (hf : FR_ P h h1) (hk : kd_ok h) (hz : ob_ok h z) : ob_ok h1 z := by
  obtain ⟨c, C, T, N, hK, hc, hr⟩ := hz
  exact ⟨c, C, T, N, (hf.2.1 z (kd_in hk hK (by show c ≠ 999; omega)).2).trans hK, hc, hr⟩
theorem AL_in {h : AH} {L D c n : Nat} {f : Nat → Nat} (hA : AL_ h L D c n f) (hk : kd_ok h) : L < hp_n h ∧ D < hp_n h := ⟨(kd_in hk hA.1 (by decide)).2, (kd_in hk hA.2.2.2.1 (by show (107 : Nat) ≠ 999; decide)).2⟩
theorem AL_fr {P : Nat → Prop} {h h1 : AH} {L D c n : Nat} {f : Nat → Nat} (hA : AL_ h L D c n f) (hf : FR_ P h h1) (hk : kd_ok h) (hL : ¬ P L) (hD : ¬ P D) : AL_ h1 L D c n f := by
  obtain ⟨q1, q2⟩ := AL_in hA hk
  obtain ⟨a1, a2, a3, a4⟩ := hf.2.2 L q1 hL
  obtain ⟨b1, b2, b3, b4⟩ := hf.2.2 D q2 hD
  exact ⟨a1.trans hA.1, (a4 1).trans hA.2.1, (a2 2).trans hA.2.2.1, b1.trans hA.2.2.2.1, hA.2.2.2.2.1, hA.2.2.2.2.2.1, fun k => (b4 k).trans (hA.2.2.2.2.2.2.1 k), fun k hk9 => ob_fr hf hk (hA.2.2.2.2.2.2.2 k hk9)⟩
theorem shr1 {c : Nat} (hc : c < 2 ^ 31) : nI c >>> ((1 : Int32) &&& 31) = nI (c / 2) := by
  rw [show (1 : Int32) = nI 1 from rfl, pk_shrN hc _ 1 (sh_d 1 (by decide))]
theorem mx_nI {a b : Nat} (ha : a < 2 ^ 31) (hb : b < 2 ^ 31) : (if nI a < nI b then nI b else nI a) = nI (max a b) := by
  by_cases z : a < b
  · rw [if_pos ((nI_ltI ha hb).mpr z), Nat.max_eq_right (by omega)]
  · rw [if_neg (fun y => z ((nI_ltI ha hb).mp y)), Nat.max_eq_left (by omega)]

theorem c_J2_size {G : Gv} {h : AH} {L D c n : Nat} {f : Nat → Nat} (hA : AL_ h L D c n f) : Ctr G 0 yJ2_size cJ2_size 1 (some .int) [.ref L] h 0 0 (Pu h (.int (nI n))) := by
  refine ctr_of (own := RJ2) (nm := "size") (by decide) (Nat.le_of_ble_eq_true rfl) ?_
  refine v_aload_n dJ2_size_0 rfl rfl ?_
  refine v_getI fJ2_48 dJ2_size_1 (hA).1 ?_
  exact v_reti dJ2_size_4 rfl (Pu_i hA.2.2.1)

theorem c_J6_checkIndex {G : Gv} {h : AH} {k n : Nat} (hk : k < n) (hn : n < 2 ^ 31) : Ctr G 2 yJ6_checkIndex cJ6_checkIndex 2 (some .int) [.int (nI k), .int (nI n)] h 0 0 (Pu h (.int (nI k))) := by
  refine ctr_of (own := RJ6) (nm := "checkIndex") (by decide) (Nat.le_of_ble_eq_true rfl) ?_
  refine v_iload_n dJ6_checkIndex_0 rfl rfl ?_
  refine v_iload_n dJ6_checkIndex_1 rfl rfl ?_
  refine v_null dJ6_checkIndex_2 ?_
  refine v_pS mtJ7_checkIndex q613 q614 dJ6_checkIndex_3 (c_J7_checkIndexN hk hn) (by first | decide | omega) ?_
  exact v_reti dJ6_checkIndex_6 rfl (Pu_i rfl)

theorem c_J2_elementData {G : Gv} {h : AH} {L D c n k : Nat} {f : Nat → Nat} (hA : AL_ h L D c n f) (hk : k < n) : Ctr G 0 yJ2_elementData cJ2_elementData 2 (some (.object "java/lang/Object")) [.ref L, .int (nI k)] h 0 0 (Pu h (.ref (f k))) := by
  refine ctr_of (own := RJ2) (nm := "elementData") (by decide) (Nat.le_of_ble_eq_true rfl) ?_
  refine v_aload_n dJ2_elementData_0 rfl rfl ?_
  refine v_getR fJ2_9 dJ2_elementData_1 (hA).1 (hA).2.1 ?_
  refine v_iload_n dJ2_elementData_4 rfl rfl ?_
  refine v_aald (t := 7) dJ2_elementData_5 hA.2.2.2.1 (by decide) rfl (Nat.lt_of_lt_of_le hk hA.2.2.2.2.1) (show va_rf (hp_R h D k) = .ref (f k) from by rw [hA.2.2.2.2.2.2.1 k, if_pos hk]; rfl) ?_ (by have := hA.2.2.2.2.2.1.2; omega)
  exact v_reta dJ2_elementData_6 (Or.inl ⟨_, rfl⟩) Pu_r

theorem c_J2_get {G : Gv} {h : AH} {L D c n k : Nat} {f : Nat → Nat} {i : Int32} (hA : AL_ h L D c n f) (hi : i = nI k) (hk : k < n) : Ctr G 3 yJ2_get cJ2_get 2 (some (.object "java/lang/Object")) [.ref L, .int i] h 0 0 (Pu h (.ref (f k))) := by
  refine ctr_of (own := RJ2) (nm := "get") (by decide) (Nat.le_of_ble_eq_true rfl) ?_
  subst hi
  refine v_iload_n dJ2_get_0 rfl rfl ?_
  refine v_aload_n dJ2_get_1 rfl rfl ?_
  refine v_getI fJ2_48 dJ2_get_2 (hA).1 ?_
  rw [hA.2.2.1]
  refine v_pS mtJ6_checkIndex q610 q611 dJ2_get_5 (c_J6_checkIndex hk (by have := hA.2.2.2.2.2.1.2; have := hA.2.2.2.2.1; omega)) (by first | decide | omega) ?_
  refine v_pop dJ2_get_8 rfl ?_
  refine v_aload_n dJ2_get_9 rfl rfl ?_
  refine v_iload_n dJ2_get_10 rfl rfl ?_
  refine v_pV mtJ2_elementData q616 q617 q618 rfl (by decide) dJ2_get_11 (c_J2_elementData hA hk) (hA).1 (by first | decide | omega) ?_
  exact v_reta dJ2_get_14 (Or.inl ⟨_, rfl⟩) Pu_r

theorem c_J3_newLength {G : Gv} {h : AH} {o a b : Nat} (ho : o < 10000) (ha : a < 10000) (hb : b < 10000) (h1 : 0 < o + max a b) : Ctr G 1 yJ3_newLength cJ3_newLength 4 (some .int) [.int (nI o), .int (nI a), .int (nI b)] h 0 0 (Pu h (.int (nI (o + max a b)))) := by
  refine ctr_of (own := RJ3) (nm := "newLength") (by decide) (Nat.le_of_ble_eq_true rfl) ?_
  refine v_iload_n dJ3_newLength_0 rfl rfl ?_
  refine v_iload_n dJ3_newLength_1 rfl rfl ?_
  refine v_iload_n dJ3_newLength_2 rfl rfl ?_
  refine v_mmax q528 (by first | decide | omega) dJ3_newLength_3 ?_
  rw [mx_nI (by omega) (by omega)]
  refine v_iadd dJ3_newLength_6 ?_
  rw [ix_add rfl rfl]
  refine v_istore_n dJ3_newLength_7 rfl (by decide) ?_
  refine v_iconst (v := 0) dJ3_newLength_8 (by decide) ?_
  refine v_iload_n dJ3_newLength_9 rfl rfl ?_
  refine v_icmp_ge (tgt := 21) dJ3_newLength_10 (by decide) (fun b10 => ?_) (fun b10 => ?_)
  · skip
    exfalso
    rw [show (0 : Int32) = nI 0 from rfl, nI_leI (by omega) (by omega)] at b10
    omega
  · skip
    refine v_iload_n dJ3_newLength_13 rfl rfl ?_
    refine v_ldc q531 dJ3_newLength_14 ?_
    refine v_icmp_gt (tgt := 21) dJ3_newLength_16 (by decide) (fun b16 => ?_) (fun b16 => ?_)
    · skip
      exfalso
      rw [show (2147483639 : Int32) = nI 2147483639 from rfl] at b16
      have := (nI_ltI (by omega) (by omega)).mp b16
      omega
    · skip
      refine v_iload_n dJ3_newLength_19 rfl rfl ?_
      exact v_reti dJ3_newLength_20 rfl (Pu_i rfl)

theorem c_J5_copyOf2 {G : Gv} {h : AH} {D c k : Nat} (hM : gm_ok G) (hK : hp_K h D = (107, c)) (hc : c ≤ k) (hk : k < 1000) (hel : ∀ i, i < c → ∀ z, hp_R h D i = some z → ob_ok h z) : Ctr G 1 yJ5_copyOf_2 cJ5_copyOf_2 4 (some (.array (.object "java/lang/Object"))) [.ref D, .int (nI k), .ref 27] h 1 k (fun r h1 => r = some (.ref (hp_n h)) ∧ h1 = up_RA (hp_new h (107, k)) (hp_n h) (fun j => if j < c then hp_R h D j else none)) := by
  refine ctr_of (own := RJ5) (nm := "copyOf") (by decide) (Nat.le_of_ble_eq_true rfl) ?_
  refine v_kd fun hkd => ?_
  have hDn := (kd_in hkd hK (by show (107 : Nat) ≠ 999; decide)).2
  have hDne : ¬ D = hp_n h := by omega
  refine v_aload_n dJ5_copyOf_2_0 rfl rfl ?_
  refine v_ldcM hM q568 dJ5_copyOf_2_1 ?_
  refine v_acmpE (tgt := 13) dJ5_copyOf_2_3 (by decide) ?_
  refine v_iload_n dJ5_copyOf_2_6 rfl rfl ?_
  refine v_less (mc' := 0 + 1) (ms' := 0 + k) (by omega) (by omega) ?_
  refine v_newA (t := 7) (N := k) (mc := 0) (ms := 0) (.inl ⟨rfl, rfl⟩) q569 dJ5_copyOf_2_7 rfl (by omega) ?_
  have hK1 : hp_K (hp_new h (107, k)) D = (107, c) := (if_neg hDne).trans hK
  have hK2 : hp_K (hp_new h (107, k)) (hp_n h) = (107, k) := if_pos rfl
  have hR1 : ∀ j, hp_R (hp_new h (107, k)) D j = hp_R h D j := fun j => if_neg hDne
  refine v_goto (tgt := 24) dJ5_copyOf_2_10 (by decide) ?_
  refine v_astore_n dJ5_copyOf_2_24 rfl (by decide) ?_
  refine v_aload_n dJ5_copyOf_2_25 rfl rfl ?_
  refine v_iconst (v := nI 0) dJ5_copyOf_2_26 (by decide) ?_
  refine v_aload_n dJ5_copyOf_2_27 rfl rfl ?_
  refine v_iconst (v := nI 0) dJ5_copyOf_2_28 (by decide) ?_
  refine v_aload_n dJ5_copyOf_2_29 rfl rfl ?_
  refine v_alen (t := 7) dJ5_copyOf_2_30 hK1 (by decide) rfl ?_
  refine v_iload_n dJ5_copyOf_2_31 rfl rfl ?_
  refine v_mmin q570 (by first | decide | omega) dJ5_copyOf_2_32 ?_
  have hmn : (if nI k < nI c then nI k else nI c) = nI c := if_neg (fun y => by have := (nI_ltI (by omega) (by omega)).mp y; omega)
  have hel9 : ∀ i, i < c → ∀ z, hp_R (hp_new h (107, k)) D i = some z → ob_ok (hp_new h (107, k)) z := fun i hi z hz => ob_fr (FR_new (P := fun _ => False)) hkd (hel i hi z ((hR1 i).symm.trans hz))
  refine v_cpR (n := c) rfl rfl hmn q573 hK1 hK2 (Nat.le_refl c) hc (by omega) hel9 (by decide) dJ5_copyOf_2_35 ?_
  refine v_aload_n dJ5_copyOf_2_38 rfl rfl ?_
  exact v_reta dJ5_copyOf_2_39 (Or.inr ⟨_, rfl⟩) ⟨rfl, by
    congr 1
    funext j
    by_cases z : j < c
    · rw [if_pos z, if_pos z]; exact hR1 j
    · rw [if_neg z, if_neg z]; exact if_pos rfl⟩

theorem c_J5_copyOf {G : Gv} {h : AH} {D c k : Nat} (hM : gm_ok G) (hK : hp_K h D = (107, c)) (hc : c ≤ k) (hk : k < 1000) (hel : ∀ i, i < c → ∀ z, hp_R h D i = some z → ob_ok h z) : Ctr G 2 yJ5_copyOf cJ5_copyOf 2 (some (.array (.object "java/lang/Object"))) [.ref D, .int (nI k)] h 1 k (fun r h1 => r = some (.ref (hp_n h)) ∧ h1 = up_RA (hp_new h (107, k)) (hp_n h) (fun j => if j < c then hp_R h D j else none)) := by
  refine ctr_of (own := RJ5) (nm := "copyOf") (by decide) (Nat.le_of_ble_eq_true rfl) ?_
  refine v_aload_n dJ5_copyOf_0 rfl rfl ?_
  refine v_iload_n dJ5_copyOf_1 rfl rfl ?_
  refine v_aload_n dJ5_copyOf_2 rfl rfl ?_
  refine v_getC hM hK q538 (by decide) dJ5_copyOf_3 ?_
  refine v_cS (mc2 := 0) (ms2 := 0) mtJ5_copyOf_2 q565 q566 dJ5_copyOf_6 (c_J5_copyOf2 hM hK hc hk hel) (by first | decide | omega) (by omega) (by omega) (fun r6 h6 q6 z6 => ?_)
  obtain ⟨rfl, rfl⟩ := q6
  exact v_reta dJ5_copyOf_9 (Or.inr ⟨_, rfl⟩) ⟨rfl, rfl⟩

/-- what growing makes of the heap -/
def gw_ (h : AH) (L D c k : Nat) : AH := up_R (up_RA (hp_new h (107, k)) (hp_n h) (fun j => if j < c then hp_R h D j else none)) L 1 (some (hp_n h))
theorem FR_gw {h : AH} {L D c k : Nat} : FR_ (fun q => q = L) h (gw_ h L D c k) := ⟨Nat.le_succ _, fun q hq => (if_neg (by show ¬ q = hp_n h; omega)), fun q hq hn => by
  have hne : ¬ q = hp_n h := by omega
  exact sm_tr ((FR_new (P := fun _ => False) (t := (107, k))).2.2 q hq (fun z => z)) (sm_tr (sm_RA q hne) (sm_R q hn))⟩
theorem c_J2_grow2 {G : Gv} {h : AH} {L D c : Nat} {f : Nat → Nat} (hM : gm_ok G) (hA : AL_ h L D c c f) (hc9 : c ≤ 60) : Ctr G 3 yJ2_grow_2 cJ2_grow_2 4 (some (.array (.object "java/lang/Object"))) [.ref L, .int (nI (c + 1))] h 1 100 (fun r h1 => r = some (.ref (hp_n h)) ∧ h1 = gw_ h L D c (c + max 1 (c / 2))) := by
  refine ctr_of (own := RJ2) (nm := "grow") (by decide) (Nat.le_of_ble_eq_true rfl) ?_
  refine v_kd fun hkd => ?_
  have hel : ∀ i, i < c → ∀ z, hp_R h D i = some z → ob_ok h z := fun i hi z hz => by
    rw [hA.2.2.2.2.2.2.1 i, if_pos hi] at hz
    cases hz
    exact hA.2.2.2.2.2.2.2 i hi
  have h1c := hA.2.2.2.2.2.1.1
  have hmx : c + max 1 (c / 2) ≤ 100 := by omega
  refine v_aload_n dJ2_grow_2_0 rfl rfl ?_
  refine v_getR fJ2_9 dJ2_grow_2_1 (hA).1 (hA).2.1 ?_
  refine v_alen (t := 7) dJ2_grow_2_4 (hA).2.2.2.1 (by decide) rfl ?_
  refine v_istore_n dJ2_grow_2_5 rfl (by decide) ?_
  refine v_iload_n dJ2_grow_2_6 rfl rfl ?_
  refine v_if_gt (tgt := 20) dJ2_grow_2_7 (by decide) (fun b7 => ?_) (fun b7 => ?_)
  · skip
    refine v_iload_n dJ2_grow_2_20 rfl rfl ?_
    refine v_iload_n dJ2_grow_2_21 rfl rfl ?_
    refine v_iload_n dJ2_grow_2_22 rfl rfl ?_
    refine v_isub dJ2_grow_2_23 ?_
    refine v_iload_n dJ2_grow_2_24 rfl rfl ?_
    refine v_iconst (v := 1) dJ2_grow_2_25 (by decide) ?_
    refine v_ishr dJ2_grow_2_26 ?_
    rw [shr1 (by omega), pk_sub (by omega), show c + 1 - c = 1 by omega]
    refine v_pS mtJ3_newLength q525 q526 dJ2_grow_2_27 (c_J3_newLength (o := c) (a := 1) (b := c / 2) (by omega) (by omega) (by omega) (by omega)) (by first | decide | omega) ?_
    refine v_istore_n dJ2_grow_2_30 rfl (by decide) ?_
    refine v_aload_n dJ2_grow_2_31 rfl rfl ?_
    refine v_aload_n dJ2_grow_2_32 rfl rfl ?_
    refine v_getR fJ2_9 dJ2_grow_2_33 (hA).1 (hA).2.1 ?_
    refine v_iload_n dJ2_grow_2_36 rfl rfl ?_
    refine v_cS (mc2 := 0) (ms2 := 0) mtJ5_copyOf q535 q536 dJ2_grow_2_37 (c_J5_copyOf (k := c + max 1 (c / 2)) hM hA.2.2.2.1 (by omega) (by omega) hel) (by first | decide | omega) (by omega) (by omega) (fun r37 h37 q37 z37 => ?_)
    obtain ⟨rfl, rfl⟩ := q37
    refine v_dup_x1 dJ2_grow_2_40 rfl rfl ?_
    have hLn := (kd_in hkd hA.1 (by decide)).2
    refine v_putR (ty := .array (.object "java/lang/Object")) fJ2_9 (.inl rfl) dJ2_grow_2_41 (show hp_K (up_RA (hp_new h (107, c + max 1 (c / 2))) (hp_n h) _) L = (25, 0) from (if_neg (by show ¬ L = hp_n h; omega)).trans hA.1) (by decide +kernel) rfl rfl ?_
    exact v_reta dJ2_grow_2_44 (Or.inr ⟨_, rfl⟩) ⟨rfl, rfl⟩
  · skip
    exfalso
    rw [show (0 : Int32) = nI 0 from rfl] at b7
    exact b7 ((nI_ltI (by omega) (by omega)).mpr (by omega))

theorem c_J2_grow {G : Gv} {h : AH} {L D c : Nat} {f : Nat → Nat} (hM : gm_ok G) (hA : AL_ h L D c c f) (hc9 : c ≤ 60) : Ctr G 4 yJ2_grow cJ2_grow 1 (some (.array (.object "java/lang/Object"))) [.ref L] h 1 100 (fun r h1 => r = some (.ref (hp_n h)) ∧ h1 = gw_ h L D c (c + max 1 (c / 2))) := by
  refine ctr_of (own := RJ2) (nm := "grow") (by decide) (Nat.le_of_ble_eq_true rfl) ?_
  refine v_aload_n dJ2_grow_0 rfl rfl ?_
  refine v_aload_n dJ2_grow_1 rfl rfl ?_
  refine v_getI fJ2_48 dJ2_grow_2 (hA).1 ?_
  refine v_iconst (v := 1) dJ2_grow_5 (by decide) ?_
  refine v_iadd dJ2_grow_6 ?_
  rw [hA.2.2.1, show (1 : Int32) = nI 1 from rfl, nI_add]
  refine v_cV (mc2 := 0) (ms2 := 0) mtJ2_grow_2 q519 q521 qs6 rfl (by decide) dJ2_grow_7 (c_J2_grow2 hM hA hc9) (hA).1 (by first | decide | omega) (by omega) (by omega) (fun r7 h7 q7 z7 => ?_)
  obtain ⟨rfl, rfl⟩ := q7
  exact v_reta dJ2_grow_10 (Or.inr ⟨_, rfl⟩) ⟨rfl, rfl⟩

theorem ld_ne {h : AH} {L D c n : Nat} {f : Nat → Nat} (hA : AL_ h L D c n f) : ¬ L = D := fun z => by
  have h1 := hA.1
  rw [z, hA.2.2.2.1] at h1
  cases h1
/-- f, but v at n -/
def fa_ (f : Nat → Nat) (n v : Nat) : Nat → Nat := fun k => if k = n then v else f k
theorem fa_e {f : Nat → Nat} {n v k : Nat} (e : k = n) : fa_ f n v k = v := if_pos e
theorem fa_n {f : Nat → Nat} {n v k : Nat} (e : ¬ k = n) : fa_ f n v k = f k := if_neg e
/-- a thing more -/
def AD_ (h h1 : AH) (L D n : Nat) (f : Nat → Nat) (v : Nat) : Prop := (∃ D1 c1, AL_ h1 L D1 c1 (n + 1) (fa_ f n v) ∧ ((D1 = D ∧ hp_n h1 = hp_n h) ∨ (D1 = hp_n h ∧ hp_n h1 = hp_n h + 1))) ∧ FR_ (fun q => q = L ∨ q = D) h h1
theorem ob_K {h h1 : AH} {z : Nat} (hK : hp_K h1 z = hp_K h z) (hz : ob_ok h z) : ob_ok h1 z := by
  obtain ⟨c, C, T, N, e, hc, hr⟩ := hz
  exact ⟨c, C, T, N, hK.trans e, hc, hr⟩
theorem AL_ad1 {h : AH} {L D c n v : Nat} {f : Nat → Nat} (hA : AL_ h L D c n f) (hn : n < c) (hv : ob_ok h v) : AD_ h (up_I (up_R h D n (some v)) L 2 (nI (n + 1))) L D n f v := by
  refine ⟨⟨D, c, ⟨hA.1, ?_, ?_, hA.2.2.2.1, hn, hA.2.2.2.2.2.1, fun k => ?_, fun k hk => ?_⟩, Or.inl ⟨rfl, rfl⟩⟩, Nat.le_refl _, fun _ _ => rfl, fun q hq hne => sm_tr (sm_R q (fun z => hne (Or.inr z))) (sm_I q (fun z => hne (Or.inl z)))⟩
  · exact (if_neg (fun z => ld_ne hA z.1)).trans hA.2.1
  · exact if_pos ⟨rfl, rfl⟩
  · show (if D = D ∧ k = n then some v else hp_R h D k) = _
    by_cases z : k = n
    · rw [if_pos ⟨rfl, z⟩, if_pos (by omega), fa_e z]
    · rw [if_neg (fun y => z y.2), hA.2.2.2.2.2.2.1 k, fa_n z]
      by_cases y : k < n
      · rw [if_pos y, if_pos (by omega)]
      · rw [if_neg y, if_neg (by omega)]
  · by_cases z : k = n
    · rw [fa_e z]; exact ob_K rfl hv
    · rw [fa_n z]; exact ob_K rfl (hA.2.2.2.2.2.2.2 k (by omega))
theorem AL_ad2 {h : AH} {L D c k v : Nat} {f : Nat → Nat} (hA : AL_ h L D c c f) (hkd : kd_ok h) (hk : c < k) (hk9 : k ≤ 100) (hv : ob_ok h v) : AD_ h (up_I (up_R (gw_ h L D c k) (hp_n h) c (some v)) L 2 (nI (c + 1))) L D c f v := by
  have hL := (kd_in hkd hA.1 (by decide)).2
  have hLn : ¬ L = hp_n h := by omega
  have hF : FR_ (fun q => q = L ∨ q = D) h (up_I (up_R (gw_ h L D c k) (hp_n h) c (some v)) L 2 (nI (c + 1))) := by
    have e1 : FR_ (fun q => q = L ∨ q = hp_n h) (gw_ h L D c k) (up_I (up_R (gw_ h L D c k) (hp_n h) c (some v)) L 2 (nI (c + 1))) := FR_tr (FR_R (P := fun q => q = L ∨ q = hp_n h) (Or.inr rfl)) (FR_I (P := fun q => q = L ∨ q = hp_n h) (Or.inl rfl)) (fun _ _ z => z)
    exact FR_w (FR_tr (FR_gw (L := L) (D := D) (c := c) (k := k)) e1 (fun q hq z => z.elim (fun y => y) (fun y => by omega))) (fun q _ y => Or.inl y)
  refine ⟨⟨hp_n h, k, ⟨?_, ?_, ?_, ?_, hk, by have := hA.2.2.2.2.2.1; omega, fun j => ?_, fun j hj => ?_⟩, Or.inr ⟨rfl, rfl⟩⟩, hF⟩
  · exact (hF.2.1 L hL).trans hA.1
  · show (if L = hp_n h ∧ 1 = c then _ else if L = L ∧ 1 = 1 then some (hp_n h) else _) = _
    rw [if_neg (fun z => hLn z.1), if_pos ⟨rfl, rfl⟩]
  · exact if_pos ⟨rfl, rfl⟩
  · exact if_pos rfl
  · show (if hp_n h = hp_n h ∧ j = c then some v else if hp_n h = L ∧ j = 1 then _ else if hp_n h = hp_n h then (if j < c then hp_R h D j else none) else _) = _
    by_cases z : j = c
    · rw [if_pos ⟨rfl, z⟩, if_pos (by omega), fa_e z]
    · rw [if_neg (fun y => z y.2), if_neg (fun y => hLn y.1.symm), if_pos rfl, fa_n z]
      by_cases y : j < c
      · rw [if_pos y, if_pos (by omega), hA.2.2.2.2.2.2.1 j, if_pos y]
      · rw [if_neg y, if_neg (by omega)]
  · by_cases z : j = c
    · rw [fa_e z]; exact ob_fr hF hkd hv
    · rw [fa_n z]; exact ob_fr hF hkd (hA.2.2.2.2.2.2.2 j (by omega))
theorem AL_mod {h : AH} {L D c n : Nat} {f : Nat → Nat} {x : Int32} (hA : AL_ h L D c n f) : AL_ (up_I h L 0 x) L D c n f := ⟨hA.1, hA.2.1, (if_neg (fun z => absurd z.2 (by decide))).trans hA.2.2.1, hA.2.2.2⟩
theorem c_J2_add2 {G : Gv} {h : AH} {L D c n v : Nat} {f : Nat → Nat} (hM : gm_ok G) (hA : AL_ h L D c n f) (hn9 : n ≤ 60) (hv : ob_ok h v) : Ctr G 5 yJ2_add_2 cJ2_add_2 4 none [.ref L, .ref v, .ref D, .int (nI n)] h 1 100 (fun r h1 => r = none ∧ AD_ h h1 L D n f v) := by
  refine ctr_of (own := RJ2) (nm := "add") (by decide) (Nat.le_of_ble_eq_true rfl) ?_
  refine v_kd fun hkd => ?_
  have hcs := hA.2.2.2.2.2.1
  have hnc := hA.2.2.2.2.1
  refine v_iload_n dJ2_add_2_0 rfl rfl ?_
  refine v_aload_n dJ2_add_2_1 rfl rfl ?_
  refine v_alen (t := 7) dJ2_add_2_2 hA.2.2.2.1 (by decide) rfl ?_
  refine v_icmp_ne (tgt := 11) dJ2_add_2_3 (by decide) (fun b3 => ?_) (fun b3 => ?_)
  · skip
    have hcn : n < c := by
      rcases Nat.lt_or_ge n c with z | z
      · exact z
      · exact absurd (congrArg nI (show n = c by omega)) b3
    have hKL := hA.1
    have hv9 := hv
    obtain ⟨cq, C9, T9, N9, e1, e2, e3, e4⟩ := hv9
    refine v_aload_n dJ2_add_2_11 rfl rfl ?_
    refine v_iload_n dJ2_add_2_12 rfl rfl ?_
    refine v_aload_n dJ2_add_2_13 rfl rfl ?_
    refine v_aast dJ2_add_2_14 hA.2.2.2.1 (.inl ⟨rfl, rfl⟩) rfl (by omega) e1 e2 e3 (.inr e4) ?_ (by omega)
    refine v_aload_n dJ2_add_2_15 rfl rfl ?_
    refine v_iload_n dJ2_add_2_16 rfl rfl ?_
    refine v_iconst (v := 1) dJ2_add_2_17 (by decide) ?_
    refine v_iadd dJ2_add_2_18 ?_
    rw [show (1 : Int32) = nI 1 from rfl, nI_add]
    refine v_putI fJ2_48 (.inl rfl) dJ2_add_2_19 hKL ?_
    exact v_retv dJ2_add_2_22 trivial ⟨rfl, AL_ad1 hA hcn hv⟩
  · skip
    have hcn : c = n := ((nI_eq (by omega) (by omega)).mp b3).symm
    subst hcn
    refine v_aload_n dJ2_add_2_6 rfl rfl ?_
    refine v_cV (mc2 := 0) (ms2 := 0) mtJ2_grow q515 q517 qs5 rfl (by decide) dJ2_add_2_7 (c_J2_grow hM hA hn9) (hA).1 (by first | decide | omega) (by omega) (by omega) (fun r7 h7 q7 z7 => ?_)
    obtain ⟨rfl, rfl⟩ := q7
    refine v_astore_n dJ2_add_2_10 rfl (by decide) ?_
    have hKL := (FR_gw (L := L) (D := D) (c := c) (k := c + max 1 (c / 2)).2.1 L (kd_in hkd hA.1 (by decide)).2).trans hA.1
    have hv9 := ob_fr (FR_gw (L := L) (D := D) (c := c) (k := c + max 1 (c / 2))) hkd hv
    obtain ⟨cq, C9, T9, N9, e1, e2, e3, e4⟩ := hv9
    refine v_aload_n dJ2_add_2_11 rfl rfl ?_
    refine v_iload_n dJ2_add_2_12 rfl rfl ?_
    refine v_aload_n dJ2_add_2_13 rfl rfl ?_
    refine v_aast dJ2_add_2_14 (show hp_K (gw_ h L D c (c + max 1 (c / 2))) (hp_n h) = (107, c + max 1 (c / 2)) from if_pos rfl) (.inl ⟨rfl, rfl⟩) rfl (by omega) e1 e2 e3 (.inr e4) ?_ (by omega)
    refine v_aload_n dJ2_add_2_15 rfl rfl ?_
    refine v_iload_n dJ2_add_2_16 rfl rfl ?_
    refine v_iconst (v := 1) dJ2_add_2_17 (by decide) ?_
    refine v_iadd dJ2_add_2_18 ?_
    rw [show (1 : Int32) = nI 1 from rfl, nI_add]
    refine v_putI fJ2_48 (.inl rfl) dJ2_add_2_19 hKL ?_
    exact v_retv dJ2_add_2_22 trivial ⟨rfl, AL_ad2 hA hkd (by omega) (by omega) hv⟩

theorem c_J2_add {G : Gv} {h : AH} {L D c n v : Nat} {f : Nat → Nat} (hM : gm_ok G) (hA : AL_ h L D c n f) (hn9 : n ≤ 60) (hv : ob_ok h v) : Ctr G 6 yJ2_add cJ2_add 2 (some .boolean) [.ref L, .ref v] h 1 100 (fun r h1 => r = some (.int 1) ∧ AD_ h h1 L D n f v) := by
  refine ctr_of (own := RJ2) (nm := "add") (by decide) (Nat.le_of_ble_eq_true rfl) ?_
  refine v_aload_n dJ2_add_0 rfl rfl ?_
  refine v_dup dJ2_add_1 rfl ?_
  refine v_getI fJ2_63 dJ2_add_2 (hA).1 ?_
  refine v_iconst (v := 1) dJ2_add_5 (by decide) ?_
  refine v_iadd dJ2_add_6 ?_
  refine v_putI fJ2_63 (.inl rfl) dJ2_add_7 (hA).1 ?_
  have hA1 := hA
  clear hA1
  refine v_aload_n dJ2_add_10 rfl rfl ?_
  refine v_aload_n dJ2_add_11 rfl rfl ?_
  refine v_aload_n dJ2_add_12 rfl rfl ?_
  refine v_getR fJ2_9 dJ2_add_13 hA.1 hA.2.1 ?_
  refine v_aload_n dJ2_add_16 rfl rfl ?_
  refine v_getI fJ2_48 dJ2_add_17 hA.1 ?_
  rw [(AL_mod hA).2.2.1]
  refine v_cV (mc2 := 0) (ms2 := 0) mtJ2_add_2 q511 q513 qs4 rfl (by decide) dJ2_add_20 (c_J2_add2 hM (AL_mod hA) hn9 (ob_K rfl hv)) (hA).1 (by first | decide | omega) (by omega) (by omega) (fun r20 h20 q20 z20 => ?_)
  obtain ⟨rfl, hQ⟩ := q20
  refine v_iconst (v := 1) dJ2_add_23 (by decide) ?_
  exact v_reti dJ2_add_24 rfl ⟨rfl, hQ.1, FR_tr (FR_I (P := fun q => q = L ∨ q = D) (Or.inl rfl)) hQ.2 (fun _ _ z => z)⟩

theorem c_J2_clear {G : Gv} {h : AH} {L D c n : Nat} {f : Nat → Nat} (hA : AL_ h L D c n f) : Ctr G 0 yJ2_clear cJ2_clear 4 none [.ref L] h 0 0 (fun r h1 => r = none ∧ AL_ h1 L D c 0 f ∧ FR_ (fun q => q = L ∨ q = D) h h1 ∧ hp_n h1 = hp_n h) := by
  refine ctr_of (own := RJ2) (nm := "clear") (by decide) (Nat.le_of_ble_eq_true rfl) ?_
  have hcs := hA.2.2.2.2.2.1
  have hnc := hA.2.2.2.2.1
  have hLD := ld_ne hA
  have hob := hA.2.2.2.2.2.2.2
  refine v_aload_n dJ2_clear_0 rfl rfl ?_
  refine v_dup dJ2_clear_1 rfl ?_
  refine v_getI fJ2_63 dJ2_clear_2 (hA).1 ?_
  refine v_iconst (v := 1) dJ2_clear_5 (by decide) ?_
  refine v_iadd dJ2_clear_6 ?_
  refine v_putI fJ2_63 (.inl rfl) dJ2_clear_7 (hA).1 ?_
  refine v_aload_n dJ2_clear_10 rfl rfl ?_
  refine v_getR fJ2_9 dJ2_clear_11 hA.1 hA.2.1 ?_
  refine v_astore_n dJ2_clear_14 rfl (by decide) ?_
  refine v_aload_n dJ2_clear_15 rfl rfl ?_
  refine v_getI fJ2_48 dJ2_clear_16 hA.1 ?_
  rw [(AL_mod hA).2.2.1]
  refine v_istore_n dJ2_clear_19 rfl (by decide) ?_
  refine v_aload_n dJ2_clear_20 rfl rfl ?_
  refine v_iconst (v := 0) dJ2_clear_21 (by decide) ?_
  refine v_dup_x1 dJ2_clear_22 rfl rfl ?_
  refine v_putI fJ2_48 (.inl rfl) dJ2_clear_23 hA.1 ?_
  refine v_istore_n dJ2_clear_26 rfl (by decide) ?_
  refine v_loc2 (by repeat' (first | exact trivial | refine And.intro ?_ ?_ | exact rfl)) (v_lp2 (fun (i : Nat) (hh : AH) => 100 - i) (fun (i : Nat) (hh : AH) => i ≤ n ∧ hp_n hh = hp_n h ∧ FR_ (fun q => q = L ∨ q = D) h hh ∧ (hp_K hh L = (25, 0) ∧ hp_R hh L 1 = some D ∧ hp_I hh L 2 = 0) ∧ hp_K hh D = (107, c) ∧ (∀ k, hp_R hh D k = if k < n ∧ ¬ k < i then some (f k) else none)) (fun (i : Nat) (hh : AH) => [(0, .ref L), (1, .ref D), (2, .int (nI n)), (3, .int (nI i))]) (fun (i : Nat) (hh : AH) => hh) ?_ 0 _ ⟨Nat.zero_le _, rfl, FR_tr (FR_I (P := fun q => q = L ∨ q = D) (Or.inl rfl)) (FR_I (Or.inl rfl)) (fun _ _ z => z), ⟨hA.1, hA.2.1, if_pos ⟨rfl, rfl⟩⟩, hA.2.2.2.1, fun k => (hA.2.2.2.2.2.2.1 k).trans (by by_cases z : k < n <;> simp [z])⟩)
  clear hA
  intro i hh ⟨hi, hn1, hfr, hL, hcK, hR⟩ ih
  refine v_iload_n dJ2_clear_27 rfl rfl ?_
  refine v_iload_n dJ2_clear_28 rfl rfl ?_
  refine v_icmp_ge (tgt := 42) dJ2_clear_29 (by decide) (fun b29 => ?_) (fun b29 => ?_)
  · skip
    have hni : n ≤ i := (nI_leI (by omega) (by omega)).mp b29
    exact v_retv dJ2_clear_42 trivial ⟨rfl, ⟨hL.1, hL.2.1, hL.2.2, hcK, Nat.zero_le _, hcs, fun k => by rw [hR k, if_neg (by omega), if_neg (by omega)], fun k hk => absurd hk (Nat.not_lt_zero _)⟩, hfr, hn1⟩
  · skip
    have hin : i < n := by
      rcases Nat.lt_or_ge i n with z | z
      · exact z
      · exact absurd ((nI_leI (by omega) (by omega)).mpr z) b29
    refine v_aload_n dJ2_clear_32 rfl rfl ?_
    refine v_iload_n dJ2_clear_33 rfl rfl ?_
    refine v_null dJ2_clear_34 ?_
    refine v_aastN dJ2_clear_35 (hcK : hp_K hh D = (107, c)) (.inl ⟨rfl, rfl⟩) rfl (by omega) ?_ (by omega)
    refine v_iinc dJ2_clear_36 rfl (by first | with_reducible exact nI_inc _ | exact rfl) (by decide) ?_
    refine v_goto (tgt := 27) dJ2_clear_39 (by decide) ?_
    refine v_loc2 (l' := [(0, .ref L), (1, .ref D), (2, .int (nI n)), (3, .int (nI (i + 1)))]) (by repeat' (first | exact trivial | refine And.intro ?_ ?_ | exact rfl)) (ih (i + 1) _ ⟨hin, hn1, FR_tr hfr (FR_R (P := fun q => q = L ∨ q = D) (Or.inr rfl)) (fun _ _ z => z), ⟨hL.1, (if_neg (fun z => hLD z.1)).trans hL.2.1, hL.2.2⟩, hcK, fun k => ?_⟩ (by omega))
    show (if D = D ∧ k = i then none else hp_R hh D k) = _
    by_cases z : k = i
    · rw [if_pos ⟨rfl, z⟩, if_neg (by omega)]
    · rw [if_neg (fun y => z y.2), hR k]
      by_cases y : k < n ∧ ¬ k < i
      · rw [if_pos y, if_pos (by omega)]
      · rw [if_neg y, if_neg (by omega)]

theorem c_J0_init {G : Gv} {h : AH} {L : Nat} : Ctr G 1 yJ0_init cJ0_init 1 none [.ref L] h 0 0 (fun r h1 => r = none ∧ h1 = h) := by
  refine ctr_of (own := RJ0) (nm := "<init>") (by decide) (Nat.le_of_ble_eq_true rfl) ?_
  refine v_aload_n dJ0_init_0 rfl rfl ?_
  refine v_objI (ci := 0) (C := "") (T := TX4) (N := 0) q192 q171 q172 dJ0_init_1 (by decide) ?_
  exact v_retv dJ0_init_4 trivial ⟨rfl, rfl⟩

theorem c_J1_init {G : Gv} {h : AH} {L : Nat} (hK : hp_K h L = (25, 0)) : Ctr G 2 yJ1_init cJ1_init 1 none [.ref L] h 0 0 (fun r h1 => r = none ∧ h1 = up_I h L 0 0) := by
  refine ctr_of (own := RJ1) (nm := "<init>") (by decide) (Nat.le_of_ble_eq_true rfl) ?_
  refine v_aload_n dJ1_init_0 rfl rfl ?_
  refine v_zI mtJ0_init q189 q190 rfl dJ1_init_1 c_J0_init (by first | decide | omega) (fun r1 h1 q1 z1 => ?_)
  obtain ⟨rfl, rfl⟩ := q1
  refine v_aload_n dJ1_init_4 rfl rfl ?_
  refine v_iconst (v := 0) dJ1_init_5 (by decide) ?_
  refine v_putI fJ1_7 (.inl rfl) dJ1_init_6 hK ?_
  exact v_retv dJ1_init_9 trivial ⟨rfl, rfl⟩

/-- a new list's heap -/
def nl_ (h : AH) (L : Nat) : AH := up_R (hp_new (up_I h L 0 0) (107, 1)) L 1 (some (hp_n h))
theorem c_J2_init {G : Gv} {h : AH} {L : Nat} (hK : hp_K h L = (25, 0)) : Ctr G 3 yJ2_init cJ2_init 2 none [.ref L, .int 1] h 1 1 (fun r h1 => r = none ∧ h1 = nl_ h L) := by
  refine ctr_of (own := RJ2) (nm := "<init>") (by decide) (Nat.le_of_ble_eq_true rfl) ?_
  refine v_kd fun hkd => ?_
  have hLn := (kd_in hkd hK (by decide)).2
  refine v_aload_n dJ2_init_0 rfl rfl ?_
  refine v_zI mtJ1_init q186 q187 rfl dJ2_init_1 (c_J1_init hK) (by first | decide | omega) (fun r1 h1 q1 z1 => ?_)
  obtain ⟨rfl, rfl⟩ := q1
  refine v_less (mc' := 0 + 1) (ms' := 0 + 1) (by omega) (by omega) ?_
  refine v_iload_n dJ2_init_4 rfl rfl ?_
  refine v_if_le (tgt := 19) dJ2_init_5 (by decide) (fun b5 => ?_) (fun b5 => ?_)
  · skip
    exact absurd b5 (by decide)
  · skip
    refine v_aload_n dJ2_init_8 rfl rfl ?_
    refine v_iload_n dJ2_init_9 rfl rfl ?_
    refine v_newA (t := 7) (N := 1) (mc := 0) (ms := 0) (.inl ⟨rfl, rfl⟩) q193 dJ2_init_10 rfl (by omega) ?_
    refine v_putR (ty := .array (.object "java/lang/Object")) fJ2_9 (.inl rfl) dJ2_init_13 (show hp_K (hp_new (up_I h L 0 0) (107, 1)) L = (25, 0) from (if_neg (by show ¬ L = hp_n h; omega)).trans hK) (by decide +kernel) rfl rfl ?_
    refine v_goto (tgt := 60) dJ2_init_16 (by decide) ?_
    exact v_retv dJ2_init_60 trivial ⟨rfl, rfl⟩

