set_option maxRecDepth 100000
theorem v_cut {G : Gv} {d : Nat} {own nm : String} {cc : ByteArray} {nL : Nat} {ret : Option FieldType} {mc ms : Nat} {Q : Option Value → AH → Prop} {pc : Nat} {l : List (Nat × Value)} {st : List Value} {h : AH} (pcJ : Nat) (φ : Prop) (hj : φ → Vv G d own nm cc nL ret mc ms Q pcJ l st h) (hk : (φ → Vv G d own nm cc nL ret mc ms Q pcJ l st h) → Vv G d own nm cc nL ret mc ms Q pc l st h) : Vv G d own nm cc nL ret mc ms Q pc l st h := hk hj
theorem nI_rng {x : Int32} {n : Nat} (h : 0 ≤ x ∧ x < nI n) (hn : n < 2 ^ 31) : ∃ k, k < n ∧ x = nI k := by
  obtain ⟨j, h1, rfl⟩ := nI_of (x := x) (by grind)
  exact ⟨j, (nI_ltI h1 hn).mp h.2, rfl⟩
theorem nI_rngE {x : Int32} {n : Nat} (h : 0 ≤ x ∧ x ≤ nI n) (hn : n < 2 ^ 31) : ∃ k, k ≤ n ∧ x = nI k := by
  obtain ⟨j, h1, rfl⟩ := nI_of (x := x) (by grind)
  exact ⟨j, (nI_leI h1 hn).mp h.2, rfl⟩
theorem sec2 {a b : Int32} (h : 0 ≤ a ∧ a ≤ b ∧ b ≤ 99) : ∃ m n : Nat, m ≤ n ∧ n ≤ 99 ∧ a = nI m ∧ b = nI n := by
  obtain ⟨n, h1, rfl⟩ := nI_rngE (x := b) (n := 99) ⟨Int32.le_trans h.1 h.2.1, h.2.2⟩ (by decide)
  obtain ⟨m, h2, rfl⟩ := nI_rngE (x := a) (n := n) ⟨h.1, h.2.1⟩ (by omega)
  exact ⟨m, n, h2, h1, rfl, rfl⟩
theorem sec1 {a : Int32} (h : 0 ≤ a ∧ a ≤ 99) : ∃ m : Nat, m ≤ 99 ∧ a = nI m := nI_rngE (n := 99) h (by decide)
theorem nI_2 {a : Nat} : 2 * nI a = nI (2 * a) := pk_mul 2 a
/-- the flag down, a refusal counted -/
def th_ (h : AH) : AH := up_I h 241 0 0
def rf_ (h : AH) (k : Nat) : AH := up_I h 242 k (hp_I h 242 k + 1)
/-- an answer and a heap -/
def Pr (F : Int32 × AH) : Option Value → AH → Prop := fun r h1 => r = some (.int F.1) ∧ h1 = F.2
def rg_ (f : Nat → Int32) (a k : Nat) (v : Int32) : Nat → Int32 := fun i => if a ≤ i ∧ i < k then v else f i
def fl_ (f g : Nat → Int32) (k : Nat) : Nat → Int32 := fun i => if i < k then g i else f i
theorem rg_0 (f : Nat → Int32) (a : Nat) (v : Int32) : rg_ f a a v = f := funext fun i => if_neg (by omega)
theorem rg_s (f : Nat → Int32) (a k : Nat) (v : Int32) (h : a ≤ k) : upd (rg_ f a k v) k v = rg_ f a (k + 1) v := funext fun i => by
  unfold upd rg_
  by_cases e : i = k
  · rw [if_pos e, if_pos (by omega)]
  · rw [if_neg e]
    by_cases z : a ≤ i ∧ i < k
    · rw [if_pos z, if_pos (by omega)]
    · rw [if_neg z, if_neg (by omega)]
theorem fl_0 (f g : Nat → Int32) : fl_ f g 0 = f := funext fun i => if_neg (by omega)
theorem fl_s (f g : Nat → Int32) (k : Nat) : upd (fl_ f g k) k (g k) = fl_ f g (k + 1) := funext fun i => by
  unfold upd fl_
  by_cases e : i = k
  · rw [if_pos e, if_pos (by omega), e]
  · rw [if_neg e]
    by_cases z : i < k
    · rw [if_pos z, if_pos (by omega)]
    · rw [if_neg z, if_neg (by omega)]
theorem IA_id (h : AH) (p : Nat) : up_IA h p (hp_I h p) = h := by
  show (h.1, h.2.1, (fun q j => if q = p then hp_I h p j else h.2.2.1 q j), h.2.2.2.1, h.2.2.2.2) = h
  have : (fun q j => if q = p then hp_I h p j else h.2.2.1 q j) = h.2.2.1 := funext fun q => funext fun j => by
    by_cases e : q = p
    · rw [if_pos e, e]; rfl
    · rw [if_neg e]
  rw [this]
theorem I_IA (h : AH) (p : Nat) (f : Nat → Int32) (k : Nat) (v : Int32) : up_I (up_IA h p f) p k v = up_IA h p (upd f k v) := by
  show (h.1, h.2.1, up_2 (fun q j => if q = p then f j else h.2.2.1 q j) p k v, h.2.2.2.1, h.2.2.2.2) = (h.1, h.2.1, (fun q j => if q = p then upd f k v j else h.2.2.1 q j), h.2.2.2.1, h.2.2.2.2)
  have : up_2 (fun q j => if q = p then f j else h.2.2.1 q j) p k v = (fun q j => if q = p then upd f k v j else h.2.2.1 q j) := funext fun q => funext fun j => by
    unfold up_2 upd
    by_cases e : q = p
    · by_cases z : j = k <;> simp [e, z]
    · simp [e]
  rw [this]
theorem hp_IA (h : AH) (p : Nat) (f : Nat → Int32) : hp_I (up_IA h p f) p = f := funext fun j => if_pos rfl
theorem hp_IAn (h : AH) (p q : Nat) (f : Nat → Int32) (n : q ≠ p) : hp_I (up_IA h p f) q = hp_I h q := funext fun j => if_neg n
theorem MI_IA {h : AH} {p : Nat} {f : Nat → Int32} (hm : MI h) : MI (up_IA h p f) := hm
theorem MI_th {h : AH} (hm : MI h) : MI (th_ h) := hm
theorem th_I {h : AH} {k : Nat} (n : k ≠ 0) : hp_I (th_ h) 241 k = hp_I h 241 k := if_neg (fun z => n z.2)
theorem th_A {h : AH} {p : Nat} (n : p ≠ 241) : hp_I (th_ h) p = hp_I h p := funext fun j => if_neg (fun z => n z.1)
theorem th_4 {h : AH} : hp_I (th_ h) 241 4 = hp_I h 241 4 := rfl
theorem th_33 {h : AH} : hp_I (th_ h) 243 = hp_I h 243 := th_A (by decide)
theorem v_thr {G : Gv} {d : Nat} {own nm : String} {cc : ByteArray} {nL : Nat} {ret : Option FieldType} {mc ms : Nat} {Q : Option Value → AH → Prop} {pc : Nat} {l : List (Nat × Value)} {st : List Value} {h : AH} {idx : Nat} {dc : String} {nst : Bool} (hf : fd_ own idx 0 0 "I" false dc nst) (hdg : decode cc pc = .ok (.putfield idx, 3)) (hm : MI h) (kk : Vv G d own nm cc nL ret mc ms Q (pc + 3) l st (th_ h)) : Vv G d own nm cc nL ret mc ms Q pc l (.int 0 :: .ref 241 :: st) h := v_putI hf (.inl rfl) hdg (mK_obj hm) kk
theorem MI_rf {h : AH} {k : Nat} (hm : MI h) : MI (rf_ h k) := hm
def sp_room0 (A : Nat → Int32) : Nat → Int32 := fun i => if i < 100 then 9 else if 100 ≤ i ∧ i < 109 then 5 else if (120 ≤ i ∧ i < 1020) ∨ (1070 ≤ i ∧ i < 4670) then -1 else if i < 4890 then 0 else A i
def sp_person (h : AH) (p need firm : Int32) : Int32 × AH :=
  if ¬ (0 ≤ p ∧ p < hp_I h 241 4) then (0, rf_ (th_ h) 1) else if ¬ ((0 ≤ need ∧ need ≤ 9) ∧ (0 ≤ firm ∧ firm ≤ 9)) then (0, rf_ (th_ h) 2)
  else (1, up_I (up_I (th_ h) 243 (100 + p.toNatClampNeg) need) 243 (110 + p.toNatClampNeg) firm)
def sp_light (h : AH) (a b v : Int32) : Int32 × AH :=
  if ¬ ((0 ≤ a ∧ a ≤ b ∧ b ≤ 99) ∧ (0 ≤ v ∧ v ≤ 9)) then (0, rf_ (th_ h) 2)
  else (1, up_IA (th_ h) 243 (rg_ (hp_I h 243) a.toNatClampNeg (b.toNatClampNeg + 1) v))
def sp_attend (h : AH) (p x a b : Int32) : Int32 × AH :=
  if ¬ ((0 ≤ p ∧ p < hp_I h 241 4) ∧ (x = -1 ∨ (0 ≤ x ∧ x ≤ hp_I h 241 4))) then (0, rf_ (th_ h) 1) else if ¬ (0 ≤ a ∧ a ≤ b ∧ b ≤ 99) then (0, rf_ (th_ h) 2)
  else (1, up_IA (th_ h) 243 (rg_ (hp_I h 243) (120 + 100 * p.toNatClampNeg + a.toNatClampNeg) (120 + 100 * p.toNatClampNeg + (b.toNatClampNeg + 1)) x))
def up_led (h : AH) (k : Nat) (x v a b : Int32) : AH := up_I (up_I (up_I (up_I (up_I h 243 (1020 + 4 * k) x) 243 (1020 + 4 * k + 1) v) 243 (1020 + 4 * k + 2) a) 243 (1020 + 4 * k + 3) b) 243 4880 (nI (k + 1))
def sp_lead (h : AH) (x v a b : Int32) : Int32 × AH :=
  if ¬ (0 ≤ x ∧ x ≤ hp_I h 241 4) then (-1, rf_ (th_ h) 1) else if ¬ ((1 ≤ v ∧ v ≤ 9) ∧ (0 ≤ a ∧ a ≤ b ∧ b ≤ 99)) then (-1, rf_ (th_ h) 2)
  else if nLed (hp_I h 243) = 12 then (-1, rf_ (th_ h) 3) else (nI (nLed (hp_I h 243)), up_led (th_ h) (nLed (hp_I h 243)) x v a b)
def sp_thing (h : AH) (x : Int32) : Int32 × AH :=
  if ¬ (0 ≤ x ∧ x ≤ hp_I h 241 4) then (-1, rf_ (th_ h) 1) else if nLaid (hp_I h 243) = 8 then (-1, rf_ (th_ h) 3) else if 0 < nMov (hp_I h 243) then (-1, rf_ (th_ h) 5)
  else (nI (nLaid (hp_I h 243)), up_I (up_I (th_ h) 243 (4670 + nLaid (hp_I h 243)) x) 243 4881 (nI (nLaid (hp_I h 243) + 1)))
theorem c_X4_person {G : Gv} {h : AH} (hm : MI h) {sN : Nat} (hs : hp_I h 241 4 = nI sN) (h3 : 3 ≤ sN ∧ sN ≤ 9) (p need firm : Int32) : Ctr G 2 yX4_person cX4_person 4 (some .boolean) [.ref 241, .int p, .int need, .int firm] h 0 0 (Pr (sp_person h p need firm)) := by
  refine ctr_of (own := RX4) (nm := "person") (by decide) (Nat.le_of_ble_eq_true rfl) ?_
  refine v_aload_n dX4_person_0 rfl rfl ?_
  refine v_iconst (v := 0) dX4_person_1 (by decide) ?_
  refine v_thr fX4_1 dX4_person_2 hm ?_
  have hm := MI_th hm
  refine v_cut 43 ((0 ≤ p ∧ p < hp_I h 241 4) ∧ ¬ ((0 ≤ need ∧ need ≤ 9) ∧ (0 ≤ firm ∧ firm ≤ 9))) (fun hz43 => ?_) (fun hc43 => ?_)
  · skip
    refine v_aload_n dX4_person_43 rfl rfl ?_
    refine v_iconst (v := nI 2) dX4_person_44 (by decide) ?_
    refine v_zV mtX4_refuses q1793 q1795 qs58 rfl (by decide) dX4_person_45 (c_X4_refuses hm ?_) (mK_obj hm) (by decide) (fun r45 h45 q45 z45 => ?_)
    · decide
    obtain ⟨rfl, rfl⟩ := q45
    exact v_reti dX4_person_48 rfl (by (try simp (disch := omega) only [nI_clamp] at *); (try simp only [b2i_0, b2i_n0] at *); (try simp only [th_4, th_33] at *); unfold sp_person; (try simp (disch := omega) only [nI_clamp]); repeat' (first | exact ⟨rfl, rfl⟩ | split | (exfalso; grind)))
  · skip
    refine v_aload_n dX4_person_5 rfl rfl ?_
    refine v_iload_n dX4_person_6 rfl rfl ?_
    refine v_pV mtX4_isPerson q1801 q1803 qs59 rfl (by decide) dX4_person_7 (c_X4_isPerson hm _) (mK_obj hm) (by decide) ?_
    refine v_if_ne (tgt := 19) dX4_person_10 (by decide) (fun b10 => ?_) (fun b10 => ?_)
    · skip
      refine v_iload_n dX4_person_19 rfl rfl ?_
      refine v_i2l dX4_person_20 ?_
      refine v_lconst (v := (0 : Int32).toInt64) dX4_person_21 (by decide) ?_
      refine v_ldc2 (v := (9 : Int32).toInt64) q1789 dX4_person_22 (by decide) ?_
      refine v_pS mtX4_within q1790 q1791 dX4_person_25 (c_X4_within _ _ _) (by decide) ?_
      refine v_if_eq (tgt := 43) dX4_person_28 (by decide) (fun b28 => ?_) (fun b28 => ?_)
      · skip
        exact hc43 (by (try simp only [b2i_0, b2i_n0] at *); (try simp only [th_4, th_33] at *); grind)
      · skip
        refine v_iload_n dX4_person_31 rfl rfl ?_
        refine v_i2l dX4_person_32 ?_
        refine v_lconst (v := (0 : Int32).toInt64) dX4_person_33 (by decide) ?_
        refine v_ldc2 (v := (9 : Int32).toInt64) q1789 dX4_person_34 (by decide) ?_
        refine v_pS mtX4_within q1790 q1791 dX4_person_37 (c_X4_within _ _ _) (by decide) ?_
        refine v_if_ne (tgt := 49) dX4_person_40 (by decide) (fun b40 => ?_) (fun b40 => ?_)
        · skip
          obtain ⟨pn, hpn, rfl⟩ : ∃ k, k < sN ∧ p = nI k := nI_rng (by rw [← hs]; (try simp only [b2i_0, b2i_n0] at *); (try simp only [th_4, th_33] at *); grind) (by omega)
          refine v_aload_n dX4_person_49 rfl rfl ?_
          refine v_getR fX4_17 dX4_person_50 (mK_obj hm) (mR_all hm) ?_ fcA_I
          refine v_bipush (v := 100) dX4_person_53 (by decide) ?_
          refine v_iload_n dX4_person_55 rfl rfl ?_
          refine v_iadd dX4_person_56 ?_
          refine v_iload_n dX4_person_57 rfl rfl ?_
          refine v_iast dX4_person_58 (mK_all hm) (ix_add (ix_lit _) rfl) (by first | assumption | omega) ?_
          refine v_aload_n dX4_person_59 rfl rfl ?_
          refine v_getR fX4_17 dX4_person_60 (mK_obj hm) (mR_all hm) ?_ fcA_I
          refine v_bipush (v := 110) dX4_person_63 (by decide) ?_
          refine v_iload_n dX4_person_65 rfl rfl ?_
          refine v_iadd dX4_person_66 ?_
          refine v_iload_n dX4_person_67 rfl rfl ?_
          refine v_iast dX4_person_68 (mK_all hm) (ix_add (ix_lit _) rfl) (by first | assumption | omega) ?_
          refine v_iconst (v := 1) dX4_person_69 (by decide) ?_
          exact v_reti dX4_person_70 rfl (by (try simp (disch := omega) only [nI_clamp] at *); (try simp only [b2i_0, b2i_n0] at *); (try simp only [th_4, th_33] at *); unfold sp_person; (try simp (disch := omega) only [nI_clamp]); repeat' (first | exact ⟨rfl, rfl⟩ | split | (exfalso; grind)))
        · skip
          exact hc43 (by (try simp only [b2i_0, b2i_n0] at *); (try simp only [th_4, th_33] at *); grind)
    · skip
      refine v_aload_n dX4_person_13 rfl rfl ?_
      refine v_iconst (v := nI 1) dX4_person_14 (by decide) ?_
      refine v_zV mtX4_refuses q1793 q1795 qs58 rfl (by decide) dX4_person_15 (c_X4_refuses hm ?_) (mK_obj hm) (by decide) (fun r15 h15 q15 z15 => ?_)
      · decide
      obtain ⟨rfl, rfl⟩ := q15
      exact v_reti dX4_person_18 rfl (by (try simp (disch := omega) only [nI_clamp] at *); (try simp only [b2i_0, b2i_n0] at *); (try simp only [th_4, th_33] at *); unfold sp_person; (try simp (disch := omega) only [nI_clamp]); repeat' (first | exact ⟨rfl, rfl⟩ | split | (exfalso; grind)))

theorem c_X4_light {G : Gv} {h : AH} (hm : MI h) (a b v : Int32) : Ctr G 3 yX4_light cX4_light 5 (some .boolean) [.ref 241, .int a, .int b, .int v] h 0 0 (Pr (sp_light h a b v)) := by
  refine ctr_of (own := RX4) (nm := "light") (by decide) (Nat.le_of_ble_eq_true rfl) ?_
  refine v_aload_n dX4_light_0 rfl rfl ?_
  refine v_iconst (v := 0) dX4_light_1 (by decide) ?_
  refine v_thr fX4_1 dX4_light_2 hm ?_
  have hm := MI_th hm
  refine v_cut 25 (¬ ((0 ≤ a ∧ a ≤ b ∧ b ≤ 99) ∧ (0 ≤ v ∧ v ≤ 9))) (fun hz25 => ?_) (fun hc25 => ?_)
  · skip
    refine v_aload_n dX4_light_25 rfl rfl ?_
    refine v_iconst (v := nI 2) dX4_light_26 (by decide) ?_
    refine v_zV mtX4_refuses q1793 q1795 qs58 rfl (by decide) dX4_light_27 (c_X4_refuses hm ?_) (mK_obj hm) (by decide) (fun r27 h27 q27 z27 => ?_)
    · decide
    obtain ⟨rfl, rfl⟩ := q27
    exact v_reti dX4_light_30 rfl (by (try simp (disch := omega) only [nI_clamp] at *); (try simp only [b2i_0, b2i_n0] at *); (try simp only [th_4, th_33] at *); unfold sp_light; (try simp (disch := omega) only [nI_clamp]); repeat' (first | exact ⟨rfl, rfl⟩ | split | (exfalso; grind)))
  · skip
    refine v_iload_n dX4_light_5 rfl rfl ?_
    refine v_iload_n dX4_light_6 rfl rfl ?_
    refine v_pS mtX4_areSeconds q1809 q1810 dX4_light_7 (c_X4_areSeconds _ _) (by decide) ?_
    refine v_if_eq (tgt := 25) dX4_light_10 (by decide) (fun b10 => ?_) (fun b10 => ?_)
    · skip
      exact hc25 (by (try simp only [b2i_0, b2i_n0] at *); (try simp only [th_4, th_33] at *); grind)
    · skip
      refine v_iload_n dX4_light_13 rfl rfl ?_
      refine v_i2l dX4_light_14 ?_
      refine v_lconst (v := (0 : Int32).toInt64) dX4_light_15 (by decide) ?_
      refine v_ldc2 (v := (9 : Int32).toInt64) q1789 dX4_light_16 (by decide) ?_
      refine v_pS mtX4_within q1790 q1791 dX4_light_19 (c_X4_within _ _ _) (by decide) ?_
      refine v_if_ne (tgt := 31) dX4_light_22 (by decide) (fun b22 => ?_) (fun b22 => ?_)
      · skip
        have hok : (0 ≤ a ∧ a ≤ b ∧ b ≤ 99) ∧ (0 ≤ v ∧ v ≤ 9) := (by (try simp only [b2i_0, b2i_n0] at *); (try simp only [th_4, th_33] at *); grind)
        clear hc25
        obtain ⟨an, bn, hab, hb, rfl, rfl⟩ := sec2 hok.1
        refine v_iload_n dX4_light_31 rfl rfl ?_
        refine v_istore dX4_light_32 (by decide) ?_
        refine v_loc2 (by repeat' (first | exact trivial | refine And.intro ?_ ?_ | exact rfl)) (v_lp2 (fun (k : Nat) (hh : AH) => bn + 1 - k) (fun (k : Nat) (hh : AH) => (an ≤ k ∧ k ≤ bn + 1) ∧ hh = up_IA (th_ h) 243 (rg_ (hp_I h 243) an k v)) (fun (k : Nat) (hh : AH) => [(0, .ref 241), (1, .int (nI an)), (2, .int (nI bn)), (3, .int v), (4, .int (nI k))]) (fun (k : Nat) (hh : AH) => hh) ?_ an _ ⟨⟨Nat.le_refl _, by omega⟩, by rw [rg_0, ← th_33, IA_id]⟩)
        intro k hh hI IH
        obtain ⟨⟨hI1, hI2⟩, rfl⟩ := hI
        have hm : MI (up_IA (th_ h) 243 (rg_ (hp_I h 243) an k v)) := MI_IA hm
        refine v_iload dX4_light_34 rfl ?_
        refine v_iload_n dX4_light_36 rfl rfl ?_
        refine v_icmp_gt (tgt := 56) dX4_light_37 (by decide) (fun b37 => ?_) (fun b37 => ?_)
        · skip
          rw [nI_ltI (by omega) (by omega)] at b37
          refine v_iconst (v := 1) dX4_light_56 (by decide) ?_
          have hk : k = bn + 1 := by omega
          subst hk
          exact v_reti dX4_light_57 rfl (by unfold sp_light; rw [if_neg (fun z => z hok), nI_clamp (by omega), nI_clamp (by omega)]; exact ⟨rfl, rfl⟩)
        · skip
          rw [Int32.not_lt, nI_leI (by omega) (by omega)] at b37
          refine v_aload_n dX4_light_40 rfl rfl ?_
          refine v_getR fX4_17 dX4_light_41 (mK_obj hm) (mR_all hm) ?_ fcA_I
          refine v_iconst (v := 0) dX4_light_44 (by decide) ?_
          refine v_iload dX4_light_45 rfl ?_
          refine v_iadd dX4_light_47 ?_
          refine v_iload_n dX4_light_48 rfl rfl ?_
          refine v_iast dX4_light_49 (mK_all hm) (ix_add (ix_lit _) rfl) (by first | assumption | omega) ?_
          refine v_iinc dX4_light_50 rfl (by first | with_reducible exact nI_inc _ | exact rfl) (by decide) ?_
          refine v_goto (tgt := 34) dX4_light_53 (by decide) ?_
          refine v_loc2 (by repeat' (first | exact trivial | refine And.intro ?_ ?_ | exact rfl)) (IH (k + 1) _ ⟨⟨by omega, by omega⟩, ?_⟩ (by omega))
          rw [I_IA, show 0 + k = k from Nat.zero_add k, rg_s _ _ _ _ hI1]
      · skip
        exact hc25 (by (try simp only [b2i_0, b2i_n0] at *); (try simp only [th_4, th_33] at *); grind)

