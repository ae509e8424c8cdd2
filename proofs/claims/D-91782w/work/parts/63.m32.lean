set_option maxRecDepth 100000
/-- the least n whose value isn't 101, of so many -/
def nn_ (f : Nat → Nat) : Nat → Nat
  | 0 => 0
  | k + 1 => if f (nn_ f k) = 101 then nn_ f k + 1 else nn_ f k
theorem nn_s (f : Nat → Nat) (k : Nat) : nn_ f (k + 1) = if f (nn_ f k) = 101 then nn_ f k + 1 else nn_ f k := rfl
theorem nn_at {f : Nat → Nat} : ∀ k, (∀ m, m < k → f m = 101) → nn_ f k = k
  | 0, _ => rfl
  | k + 1, h => by rw [nn_s, nn_at k (fun m hm => h m (by omega)), if_pos (h k (by omega))]
theorem nn_is {f : Nat → Nat} {n : Nat} (h1 : ¬ f n = 101) (h2 : ∀ m, m < n → f m = 101) : ∀ k, n ≤ k → nn_ f k = n
  | 0, hk => by
    have : n = 0 := by omega
    subst this; rfl
  | k + 1, hk => by
    rcases Nat.lt_or_ge k n with z | z
    · have : n = k + 1 := by omega
      subst this
      exact nn_at (k + 1) h2
    · rw [nn_s, nn_is h1 h2 k z, if_neg h1]
/-- where a row stands behind so many hops -/
noncomputable def ps_ (B : Nat → Nat → Nat → Prop) (n2 sN g x0 a e N : Nat) : Nat → Nat × Nat
  | 0 => (x0, a)
  | k + 1 => ((f3_ (fun t i z => oh_ B (la_ B n2 sN g a e (N - k - 1)) g (N - k - 1) (ps_ B n2 sN g x0 a e N k).1 t i z) n2 (sN + 1) (ps_ B n2 sN g x0 a e N k).2 e).2.2, (f3_ (fun t i z => oh_ B (la_ B n2 sN g a e (N - k - 1)) g (N - k - 1) (ps_ B n2 sN g x0 a e N k).1 t i z) n2 (sN + 1) (ps_ B n2 sN g x0 a e N k).2 e).1 + 1)
/-- the hops -/
noncomputable def pw_ (B : Nat → Nat → Nat → Prop) (n2 sN g x0 a e N k : Nat) : Nat × Nat × Nat := f3_ (fun t i z => oh_ B (la_ B n2 sN g a e (N - k - 1)) g (N - k - 1) (ps_ B n2 sN g x0 a e N k).1 t i z) n2 (sN + 1) (ps_ B n2 sN g x0 a e N k).2 e
theorem ps_s (B : Nat → Nat → Nat → Prop) (n2 sN g x0 a e N k : Nat) : ps_ B n2 sN g x0 a e N (k + 1) = ((pw_ B n2 sN g x0 a e N k).2.2, (pw_ B n2 sN g x0 a e N k).1 + 1) := rfl
/-- a hop that leads on is there -/
theorem cw_ex {B : Nat → Nat → Nat → Prop} {n2 sN g a e m y t : Nat} (ha : a ≤ t) (h : cw_ B n2 sN g e (m + 1) y t) : ∃ u i z, (t ≤ u ∧ u ≤ e) ∧ i < n2 ∧ z < sN + 1 ∧ oh_ B (la_ B n2 sN g a e m) g m y u i z := by
  obtain ⟨u, h1, h2, i, h3, h4, z, h5, h6, h7, h8⟩ := h
  exact ⟨u, i, z, ⟨h1, h2⟩, h3, h5, h4, h6, h7, (it_cn m z u (by omega)).mpr h8⟩
/-- what the search for a pass changes -/
def fq_ (h h' : AH) : Prop := hp_n h' = hp_n h ∧ hp_K h' = hp_K h ∧ hp_R h' = hp_R h ∧ hp_L h' = hp_L h ∧ (∀ p, (p < 260 ∨ 262 < p) → p ≠ 241 → hp_I h' p = hp_I h p) ∧ ∀ f, f ≠ 47 → hp_I h' 241 f = hp_I h 241 f
theorem fq_rf (h : AH) : fq_ h h := ⟨rfl, rfl, rfl, rfl, fun _ _ _ => rfl, fun _ _ => rfl⟩
theorem fq_tr {h h1 h2 : AH} (a : fq_ h h1) (b : fq_ h1 h2) : fq_ h h2 := ⟨b.1.trans a.1, b.2.1.trans a.2.1, b.2.2.1.trans a.2.2.1, b.2.2.2.1.trans a.2.2.2.1, fun p h1 h2 => (b.2.2.2.2.1 p h1 h2).trans (a.2.2.2.2.1 p h1 h2), fun f hf => (b.2.2.2.2.2 f hf).trans (a.2.2.2.2.2 f hf)⟩
theorem fq_I {h h1 : AH} {q k : Nat} {v : Int32} (a : fq_ h h1) (hq : 260 ≤ q ∧ q ≤ 262) : fq_ h (up_I h1 q k v) := ⟨a.1, a.2.1, a.2.2.1, a.2.2.2.1, fun p h1 h2 => by rw [II_n (by omega)]; exact a.2.2.2.2.1 p h1 h2, fun f hf => by rw [hp_I_I, if_neg (fun z => by omega)]; exact a.2.2.2.2.2 f hf⟩
theorem fq_f {h h1 : AH} {v : Int32} (a : fq_ h h1) : fq_ h (up_I h1 241 47 v) := ⟨a.1, a.2.1, a.2.2.1, a.2.2.2.1, fun p h1 h2 => by rw [II_n h2]; exact a.2.2.2.2.1 p h1 h2, fun f hf => by rw [hp_I_I, if_neg (fun z => hf z.2)]; exact a.2.2.2.2.2 f hf⟩
theorem fq_hu {h h1 h2 : AH} {n : Nat} (a : fq_ h h1) (b : hu_ n h1 h2) : fq_ h h2 := ⟨b.1.trans a.1, b.2.1.trans a.2.1, b.2.2.1.trans a.2.2.1, b.2.2.2.1.trans a.2.2.2.1, fun p h1 h2 => (b.2.2.2.2.1 p (by omega)).trans (a.2.2.2.2.1 p h1 h2), fun f hf => by rw [b.2.2.2.2.1 241 (by decide)]; exact a.2.2.2.2.2 f hf⟩
theorem fq_m {h h1 : AH} (a : fq_ h h1) (hm : MI h) : MI h1 := MI_of hm (fun p _ _ => by rw [a.2.1]) (fun k => by rw [a.2.2.1])
theorem fq_LD {A : Nat → Int32} {C : Nat → Nat → Int32} {nC sN : Nat} {S : Int32} {h h1 : AH} (a : fq_ h h1) (hL : LD_ A C nC sN S h) : LD_ A C nC sN S h1 := ⟨fq_m a hL.1, by rw [a.2.2.2.2.2 4 (by decide)]; exact hL.2.1, by rw [a.2.2.2.2.1 243 (by omega) (by decide)]; exact hL.2.2.1, fun t ht j hj s hs => by rw [a.2.2.2.2.1 (245 + j) (by omega) (by omega)]; exact hL.2.2.2 t ht j hj s hs⟩
theorem fp_fq {h h1 : AH} (a : fq_ h h1) : fp_ h h1 := ⟨a.1, a.2.1, a.2.2.1, fun p hp h3 => ⟨a.2.2.2.2.1 p (by
    rcases Nat.lt_or_ge p 260 with z | z
    · exact Or.inl z
    · rcases Nat.lt_or_ge 262 p with y | y
      · exact Or.inr y
      · exact absurd (by rcases (show p = 260 ∨ p = 261 ∨ p = 262 by omega) with e | e | e <;> subst e <;> decide) hp) h3, by rw [a.2.2.2.1]⟩, fun f hf => a.2.2.2.2.2 f (fun z => hf (by subst z; decide))⟩
theorem nI_d100 {v : Nat} (h : v ≤ 101) : nI v - 1 = nI 100 ↔ v = 101 := by
  rcases v with _ | v
  · exact ⟨fun z => absurd z (by decide), fun z => absurd z (by omega)⟩
  · rw [nI_pred, nI_eq (by omega) (by decide)]
    omega
/-- a cut with another heap -/
theorem c3 (h : AH) (k : Nat) (p : Nat × Nat × Nat) (j : Nat) : hp_I (up3_ h k p) 262 j = if j = 3 * k + 2 then nI p.2.2 else if j = 3 * k + 1 then nI p.2.1 else if j = 3 * k then nI p.1 else hp_I h 262 j := by
  unfold up3_
  rw [hp_I_I, hp_I_I, hp_I_I]
  simp only [true_and]
theorem fq_3 {h h1 : AH} {k : Nat} {p : Nat × Nat × Nat} (a : fq_ h h1) : fq_ h (up3_ h1 k p) := fq_I (fq_I (fq_I a (by omega)) (by omega)) (by omega)
theorem up3_n {h : AH} {k : Nat} {p : Nat × Nat × Nat} {q : Nat} (hq : q ≠ 262) : hp_I (up3_ h k p) q = hp_I h q := by
  unfold up3_
  rw [II_n hq, II_n hq, II_n hq]
set_option maxHeartbeats 4000000 in
theorem c_X4_findPass {G : Gv} {h : AH} {A : Nat → Int32} {C : Nat → Nat → Int32} {sN nC : Nat} {S : Int32} (hv : sv_ok A sN) (hL : LD_ A C nC sN S h) {P th g a b x0 : Nat} (hP : P < 512) (hth : th < nLaid A) (hg : g ≤ sN) (hab : a ≤ b) (hb : b < 100) (hx0 : x0 < sN + 1) (ex0 : wh_ A th (nI a) (nMov A) = nI x0) : Ctr G 6 yX4_findPass cX4_findPass 10 (some .boolean) [.ref 241, .int (nI th), .int (nI g), .int (nI P), .int (nI a), .int (nI b)] h 0 0 (fun q h1 => q = some (.int (b2c (¬ so_ (fun i τ x => br_ A C nC sN S P i τ x) (2 * sN) sN x0 a b (nn_ (fun n => so_ (fun i τ x => br_ A C nC sN S P i τ x) (2 * sN) sN x0 a b n g) 10) g = 101))) ∧ fq_ h h1 ∧ (¬ so_ (fun i τ x => br_ A C nC sN S P i τ x) (2 * sN) sN x0 a b (nn_ (fun n => so_ (fun i τ x => br_ A C nC sN S P i τ x) (2 * sN) sN x0 a b n g) 10) g = 101 → hp_I h1 241 47 = nI (nn_ (fun n => so_ (fun i τ x => br_ A C nC sN S P i τ x) (2 * sN) sN x0 a b n g) 10) ∧ nn_ (fun n => so_ (fun i τ x => br_ A C nC sN S P i τ x) (2 * sN) sN x0 a b n g) 10 ≤ 10 ∧ ∀ j, j < (nn_ (fun n => so_ (fun i τ x => br_ A C nC sN S P i τ x) (2 * sN) sN x0 a b n g) 10) → hp_I h1 262 (3 * j) = nI (pw_ (fun i τ x => br_ A C nC sN S P i τ x) (2 * sN) sN g x0 a (so_ (fun i τ x => br_ A C nC sN S P i τ x) (2 * sN) sN x0 a b (nn_ (fun n => so_ (fun i τ x => br_ A C nC sN S P i τ x) (2 * sN) sN x0 a b n g) 10) g - 1) (nn_ (fun n => so_ (fun i τ x => br_ A C nC sN S P i τ x) (2 * sN) sN x0 a b n g) 10) j).1 ∧ hp_I h1 262 (3 * j + 1) = nI (pw_ (fun i τ x => br_ A C nC sN S P i τ x) (2 * sN) sN g x0 a (so_ (fun i τ x => br_ A C nC sN S P i τ x) (2 * sN) sN x0 a b (nn_ (fun n => so_ (fun i τ x => br_ A C nC sN S P i τ x) (2 * sN) sN x0 a b n g) 10) g - 1) (nn_ (fun n => so_ (fun i τ x => br_ A C nC sN S P i τ x) (2 * sN) sN x0 a b n g) 10) j).2.1 ∧ hp_I h1 262 (3 * j + 2) = nI (pw_ (fun i τ x => br_ A C nC sN S P i τ x) (2 * sN) sN g x0 a (so_ (fun i τ x => br_ A C nC sN S P i τ x) (2 * sN) sN x0 a b (nn_ (fun n => so_ (fun i τ x => br_ A C nC sN S P i τ x) (2 * sN) sN x0 a b n g) 10) g - 1) (nn_ (fun n => so_ (fun i τ x => br_ A C nC sN S P i τ x) (2 * sN) sN x0 a b n g) 10) j).2.2)) := by
  refine ctr_of (own := RX4) (nm := "findPass") (by decide) (Nat.le_of_ble_eq_true rfl) ?_
  have hm := hL.1
  have hs := hL.2.1
  have hA := hL.2.2.1
  have h3 := sv_s hv
  have hlaid := sv_laid hv
  have ha : a < 100 := by omega
  have hsl := so_le (B := (fun i τ x => br_ A C nC sN S P i τ x)) (n2 := 2 * sN) (sN := sN) (x0 := x0) hb (show a < 100 by omega)
  have hsg := so_ge (B := (fun i τ x => br_ A C nC sN S P i τ x)) (n2 := 2 * sN) (sN := sN) (x0 := x0) hb (show a < 100 by omega)
  refine v_iconst (v := 0) dX4_findPass_0 (by decide) ?_
  refine v_istore dX4_findPass_1 (by decide) ?_
  refine v_loc2 (by repeat' (first | with_reducible exact lsub_n | with_reducible refine lsub_c ?_ ?_ | with_reducible refine lk_hit ?_ | with_reducible refine lk_miss (by decide) ?_ ?_ | exact rfl)) (v_lp2 (fun (k : Nat) (hh : AH) => 110 - k) (fun (k : Nat) (hh : AH) => k ≤ 110 ∧ fq_ h hh ∧ ∀ i, i < k → hp_I hh 260 i = nI 100) (fun (k : Nat) (hh : AH) => [(0, .ref 241), (1, .int (nI th)), (2, .int (nI g)), (3, .int (nI P)), (4, .int (nI a)), (5, .int (nI b)), (6, .int (nI k))]) (fun (k : Nat) (hh : AH) => hh) ?_ 0 _ ⟨by decide, fq_rf h, fun i hi => absurd hi (Nat.not_lt_zero i)⟩)
  intro k hh hI IH
  obtain ⟨hI1, hF, hI2⟩ := hI
  have hm : MI hh := fq_m hF hL.1
  refine v_iload dX4_findPass_3 rfl ?_
  refine v_bipush (v := nI 110) dX4_findPass_5 (by decide) ?_
  refine v_icmp_ge (tgt := 25) dX4_findPass_7 (by decide) (fun b7 => ?_) (fun b7 => ?_)
  · skip
    rw [nI_leI (by omega) (by omega)] at b7
    have hk : k = 110 := by omega
    have hLk := fq_LD hF hL
    refine v_aload_n dX4_findPass_25 rfl rfl ?_
    refine v_getR fX4_76 dX4_findPass_26 (mK_obj hm) (mR_soonest hm) ?_ fcA_I
    refine v_aload_n dX4_findPass_29 rfl rfl ?_
    refine v_iload_n dX4_findPass_30 rfl rfl ?_
    refine v_iload dX4_findPass_31 rfl ?_
    refine v_pV mtX4_ahead q1874 q1876 qs69 rfl (by decide) dX4_findPass_33 (c_X4_ahead (thing := th) hm (sN := sN) (by rw [hLk.2.2.1]; exact hv) (by omega) _) (mK_obj hm) (by decide) ?_
    rw [hLk.2.2.1, ex0]
    refine v_iload dX4_findPass_36 rfl ?_
    refine v_iconst (v := 1) dX4_findPass_38 (by decide) ?_
    refine v_isub dX4_findPass_39 ?_
    refine v_iast dX4_findPass_40 (mK_soonest hm) rfl (by first | assumption | omega) ?_
    refine v_aload_n dX4_findPass_41 rfl rfl ?_
    refine v_iconst (v := 0) dX4_findPass_42 (by decide) ?_
    refine v_putI fX4_401 (.inl rfl) dX4_findPass_43 (mK_obj hm) ?_
    refine v_loc2 (by repeat' (first | with_reducible exact lsub_n | with_reducible refine lsub_c ?_ ?_ | with_reducible refine lk_hit ?_ | with_reducible refine lk_miss (by decide) ?_ ?_ | exact rfl)) (v_lp2 (fun (n : Nat) (hd : AH) => 10 - n) (fun (n : Nat) (hd : AH) => n ≤ 10 ∧ hp_I hd 241 47 = nI n ∧ (∀ m, m ≤ n → ∀ y, y < sN + 1 → hp_I hd 260 (10 * m + y) = nI (so_ (fun i τ x => br_ A C nC sN S P i τ x) (2 * sN) sN x0 a b m y) - 1) ∧ (∀ m, n < m → m ≤ 10 → ∀ y, y < sN + 1 → hp_I hd 260 (10 * m + y) = nI 100) ∧ (∀ m, m < n → so_ (fun i τ x => br_ A C nC sN S P i τ x) (2 * sN) sN x0 a b m g = 101) ∧ fq_ h hd) (fun (n : Nat) (hd : AH) => [(0, .ref 241), (1, .int (nI th)), (2, .int (nI g)), (3, .int (nI P)), (4, .int (nI a)), (5, .int (nI b)), (6, .int (nI k))]) (fun (n : Nat) (hd : AH) => hd) ?_ 0 _ ⟨Nat.zero_le _, by rw [hp_I_I, if_pos ⟨rfl, rfl⟩]; rfl, fun m hm9 y hy => (by obtain rfl : m = 0 := (by omega); show _ = nI (if y = x0 then a else 101) - 1; rw [II_n (by decide), hp_I_I]; by_cases e : y = x0; (rw [if_pos ⟨rfl, by omega⟩, if_pos e]); (rw [if_neg (by omega), if_neg e, hI2 _ (by omega)]; exact (nI_pred 100).symm)), fun m h1 h2 y hy => (by rw [II_n (by decide), hp_I_I, if_neg (by omega)]; exact hI2 _ (by omega)), fun m hm9 => absurd hm9 (Nat.not_lt_zero m), fq_f (fq_I hF (by omega))⟩)
    intro n hd hI IH
    obtain ⟨hD1, hD2, hD3, hD4, hD5, hD6⟩ := hI
    have hm : MI hd := fq_m hD6 hL.1
    refine v_cut 98 (n = 10 ∨ ¬ so_ (fun i τ x => br_ A C nC sN S P i τ x) (2 * sN) sN x0 a b n g = 101) (fun hz98 => ?_) (fun hc98 => ?_)
    · skip
      refine v_aload_n dX4_findPass_98 rfl rfl ?_
      refine v_getR fX4_76 dX4_findPass_99 (mK_obj hm) (mR_soonest hm) ?_ fcA_I
      refine v_bipush (v := 10) dX4_findPass_102 (by decide) ?_
      refine v_aload_n dX4_findPass_104 rfl rfl ?_
      refine v_getI fX4_401 dX4_findPass_105 (mK_obj hm) ?_
      rw [hD2]
      refine v_imul dX4_findPass_108 ?_
      refine v_iload_n dX4_findPass_109 rfl rfl ?_
      refine v_iadd dX4_findPass_110 ?_
      refine v_iald dX4_findPass_111 (mK_soonest hm) (ix_add (ix_mul (ix_lit _) rfl) rfl) (by first | assumption | omega) ?_
      rw [hD3 n (Nat.le_refl _) g (by omega)]
      refine v_bipush (v := nI 100) dX4_findPass_112 (by decide) ?_
      refine v_icmp_ne (tgt := 119) dX4_findPass_114 (by decide) (fun b114 => ?_) (fun b114 => ?_)
      · skip
        rw [nI_d100 (hsl _ _)] at b114
        have eN : nn_ (fun n => so_ (fun i τ x => br_ A C nC sN S P i τ x) (2 * sN) sN x0 a b n g) 10 = n := nn_is (f := fun n => so_ (fun i τ x => br_ A C nC sN S P i τ x) (2 * sN) sN x0 a b n g) b114 hD5 10 hD1
        have hsn := hsl n g
        refine v_join 144 (fun z => (n = 0 → z = -1) ∧ (0 < n → z = nI (so_ (fun i τ x => br_ A C nC sN S P i τ x) (2 * sN) sN x0 a b n g - 1))) (fun z hz => ?_) (fun hj144 => ?_)
        · skip
          have hzz := hz
          refine v_istore dX4_findPass_144 (by decide) ?_
          refine v_iconst (v := 1) dX4_findPass_146 (by decide) ?_
          refine v_istore dX4_findPass_147 (by decide) ?_
          refine v_loc2 (by repeat' (first | with_reducible exact lsub_n | with_reducible refine lsub_c ?_ ?_ | with_reducible refine lk_hit ?_ | with_reducible refine lk_miss (by decide) ?_ ?_ | exact rfl)) (v_lp2 (fun (r : Nat) (hf : AH) => n - r) (fun (r : Nat) (hf : AH) => (1 ≤ r ∧ r ≤ max 1 n) ∧ hp_I hf 241 47 = nI n ∧ (∀ q9, 1 ≤ q9 → q9 < r → ∀ y, y < sN + 1 → hp_I hf 261 (10 * q9 + y) = nI (la_ (fun i τ x => br_ A C nC sN S P i τ x) (2 * sN) sN g a (so_ (fun i τ x => br_ A C nC sN S P i τ x) (2 * sN) sN x0 a b n g - 1) q9 y) - 1) ∧ fq_ h hf) (fun (r : Nat) (hf : AH) => [(0, .ref 241), (1, .int (nI th)), (2, .int (nI g)), (3, .int (nI P)), (4, .int (nI a)), (5, .int (nI b)), (6, .int z), (7, .int (nI r))]) (fun (r : Nat) (hf : AH) => hf) ?_ 1 _ ⟨⟨Nat.le_refl _, by omega⟩, hD2, fun m h1 h2 => by omega, hD6⟩)
          intro r hf hI IHr
          obtain ⟨⟨hE1, hE2⟩, hE3, hE5, hE6⟩ := hI
          have hE7 := fq_LD hE6 hL
          have hm : MI hf := hE7.1
          refine v_iload dX4_findPass_149 rfl ?_
          refine v_aload_n dX4_findPass_151 rfl rfl ?_
          refine v_getI fX4_401 dX4_findPass_152 (mK_obj hm) ?_
          rw [hE3]
          refine v_icmp_ge (tgt := 209) dX4_findPass_155 (by decide) (fun b155 => ?_) (fun b155 => ?_)
          · skip
            rw [nI_leI (by omega) (by omega)] at b155
            have hcw0 : cw_ (fun i τ x => br_ A C nC sN S P i τ x) (2 * sN) sN g (so_ (fun i τ x => br_ A C nC sN S P i τ x) (2 * sN) sN x0 a b n g - 1) (n - 0) x0 a := so_cn hb ha n g 0 (by omega) (by omega) rfl (by omega)
            refine v_aload_n dX4_findPass_209 rfl rfl ?_
            refine v_iload_n dX4_findPass_210 rfl rfl ?_
            refine v_iload dX4_findPass_211 rfl ?_
            refine v_pV mtX4_ahead q1874 q1876 qs69 rfl (by decide) dX4_findPass_213 (c_X4_ahead (thing := th) hm (sN := sN) (by rw [hE7.2.2.1]; exact hv) (by omega) _) (mK_obj hm) (by decide) ?_
            rw [hE7.2.2.1, ex0]
            refine v_istore dX4_findPass_216 (by decide) ?_
            refine v_iload dX4_findPass_218 rfl ?_
            refine v_istore dX4_findPass_220 (by decide) ?_
            refine v_iconst (v := 0) dX4_findPass_222 (by decide) ?_
            refine v_istore dX4_findPass_223 (by decide) ?_
            refine v_loc2 (by repeat' (first | with_reducible exact lsub_n | with_reducible refine lsub_c ?_ ?_ | with_reducible refine lk_hit ?_ | with_reducible refine lk_miss (by decide) ?_ ?_ | exact rfl)) (v_lp2 (fun (k : Nat) (hg9 : AH) => n - k) (fun (k : Nat) (hg9 : AH) => k ≤ n ∧ hp_I hg9 241 47 = nI n ∧ (ps_ (fun i τ x => br_ A C nC sN S P i τ x) (2 * sN) sN g x0 a (so_ (fun i τ x => br_ A C nC sN S P i τ x) (2 * sN) sN x0 a b n g - 1) n k).1 < sN + 1 ∧ a ≤ (ps_ (fun i τ x => br_ A C nC sN S P i τ x) (2 * sN) sN g x0 a (so_ (fun i τ x => br_ A C nC sN S P i τ x) (2 * sN) sN x0 a b n g - 1) n k).2 ∧ cw_ (fun i τ x => br_ A C nC sN S P i τ x) (2 * sN) sN g (so_ (fun i τ x => br_ A C nC sN S P i τ x) (2 * sN) sN x0 a b n g - 1) (n - k) (ps_ (fun i τ x => br_ A C nC sN S P i τ x) (2 * sN) sN g x0 a (so_ (fun i τ x => br_ A C nC sN S P i τ x) (2 * sN) sN x0 a b n g - 1) n k).1 (ps_ (fun i τ x => br_ A C nC sN S P i τ x) (2 * sN) sN g x0 a (so_ (fun i τ x => br_ A C nC sN S P i τ x) (2 * sN) sN x0 a b n g - 1) n k).2 ∧ (∀ q9, 1 ≤ q9 → q9 < n → ∀ y, y < sN + 1 → hp_I hg9 261 (10 * q9 + y) = nI (la_ (fun i τ x => br_ A C nC sN S P i τ x) (2 * sN) sN g a (so_ (fun i τ x => br_ A C nC sN S P i τ x) (2 * sN) sN x0 a b n g - 1) q9 y) - 1) ∧ (∀ j, j < k → hp_I hg9 262 (3 * j) = nI (pw_ (fun i τ x => br_ A C nC sN S P i τ x) (2 * sN) sN g x0 a (so_ (fun i τ x => br_ A C nC sN S P i τ x) (2 * sN) sN x0 a b n g - 1) n j).1 ∧ hp_I hg9 262 (3 * j + 1) = nI (pw_ (fun i τ x => br_ A C nC sN S P i τ x) (2 * sN) sN g x0 a (so_ (fun i τ x => br_ A C nC sN S P i τ x) (2 * sN) sN x0 a b n g - 1) n j).2.1 ∧ hp_I hg9 262 (3 * j + 2) = nI (pw_ (fun i τ x => br_ A C nC sN S P i τ x) (2 * sN) sN g x0 a (so_ (fun i τ x => br_ A C nC sN S P i τ x) (2 * sN) sN x0 a b n g - 1) n j).2.2) ∧ fq_ h hg9) (fun (k : Nat) (hg9 : AH) => [(0, .ref 241), (1, .int (nI th)), (2, .int (nI g)), (3, .int (nI P)), (4, .int (nI a)), (5, .int (nI b)), (6, .int z), (7, .int (nI (ps_ (fun i τ x => br_ A C nC sN S P i τ x) (2 * sN) sN g x0 a (so_ (fun i τ x => br_ A C nC sN S P i τ x) (2 * sN) sN x0 a b n g - 1) n k).1)), (8, .int (nI (ps_ (fun i τ x => br_ A C nC sN S P i τ x) (2 * sN) sN g x0 a (so_ (fun i τ x => br_ A C nC sN S P i τ x) (2 * sN) sN x0 a b n g - 1) n k).2)), (9, .int (nI k))]) (fun (k : Nat) (hg9 : AH) => hg9) ?_ 0 _ ⟨Nat.zero_le _, hE3, hx0, Nat.le_refl _, hcw0, fun m2 h1 h2 y hy => hE5 m2 h1 (by omega) y hy, fun j hj => absurd hj (Nat.not_lt_zero j), hE6⟩)
            intro k hg9 hI IHk
            obtain ⟨hG1, hG3, hG4, hG5, hG6, hG7, hG8, hG10⟩ := hI
            have hG9 := fq_LD hG10 hL
            have hm : MI hg9 := hG9.1
            refine v_iload dX4_findPass_225 rfl ?_
            refine v_aload_n dX4_findPass_227 rfl rfl ?_
            refine v_getI fX4_401 dX4_findPass_228 (mK_obj hm) ?_
            rw [hG3]
            refine v_icmp_ge (tgt := 280) dX4_findPass_231 (by decide) (fun b231 => ?_) (fun b231 => ?_)
            · skip
              rw [nI_leI (by omega) (by omega)] at b231
              have hk8 : n = k := by omega
              refine v_iconst (v := 1) dX4_findPass_280 (by decide) ?_
              subst hk8
              exact v_reti dX4_findPass_281 (by first | rfl | exact rt_c | exact rt_z | exact Or.inr rfl) ⟨congrArg (fun z => some (Value.int z)) (b2c_t (by rw [eN]; exact b114)).symm, hG10, fun _ => by rw [eN]; exact ⟨hG3, hD1, hG8⟩⟩
            · skip
              rw [nI_leI (by omega) (by omega)] at b231
              have hk8 : k < n := by omega
              have ez := hzz.2 (by omega)
              subst ez
              obtain ⟨m, hm9⟩ : ∃ m, n = k + 1 + m := ⟨n - k - 1, by omega⟩
              have hcw2 : cw_ (fun i τ x => br_ A C nC sN S P i τ x) (2 * sN) sN g (so_ (fun i τ x => br_ A C nC sN S P i τ x) (2 * sN) sN x0 a b n g - 1) (m + 1) (ps_ (fun i τ x => br_ A C nC sN S P i τ x) (2 * sN) sN g x0 a (so_ (fun i τ x => br_ A C nC sN S P i τ x) (2 * sN) sN x0 a b n g - 1) n k).1 (ps_ (fun i τ x => br_ A C nC sN S P i τ x) (2 * sN) sN g x0 a (so_ (fun i τ x => br_ A C nC sN S P i τ x) (2 * sN) sN x0 a b n g - 1) n k).2 := by have := hG6; rw [show n - k = m + 1 by omega] at this; exact this
              have hexx := cw_ex hG5 hcw2
              have e_m : n - k - 1 = m := by omega
              refine v_aload_n dX4_findPass_234 rfl rfl ?_
              refine v_iload_n dX4_findPass_235 rfl rfl ?_
              refine v_iload dX4_findPass_236 rfl ?_
              refine v_iload dX4_findPass_238 rfl ?_
              refine v_iload_n dX4_findPass_240 rfl rfl ?_
              refine v_iload dX4_findPass_241 rfl ?_
              refine v_iload dX4_findPass_243 rfl ?_
              refine v_zV mtX4_choosesHop q2132 q2134 qs110 rfl (by decide) dX4_findPass_245 (c_X4_choosesHop (m := m) (k := k) (a := a) (s := (ps_ (fun i τ x => br_ A C nC sN S P i τ x) (2 * sN) sN g x0 a (so_ (fun i τ x => br_ A C nC sN S P i τ x) (2 * sN) sN x0 a b n g - 1) n k).1) (f := (ps_ (fun i τ x => br_ A C nC sN S P i τ x) (2 * sN) sN g x0 a (so_ (fun i τ x => br_ A C nC sN S P i τ x) (2 * sN) sN x0 a b n g - 1) n k).2) (e := (so_ (fun i τ x => br_ A C nC sN S P i τ x) (2 * sN) sN x0 a b n g - 1)) hv hG9 hP (by omega) hG4 hg (by omega) (by rw [hG3, ← hm9]) (fun z hz h0 => hG7 m (by omega) (by omega) z hz) hexx) (mK_obj hm) (by decide) (fun r245 h245 q245 z245 => ?_)
              obtain ⟨rfl, p, hp3, rfl⟩ := q245
              have epw : pw_ (fun i τ x => br_ A C nC sN S P i τ x) (2 * sN) sN g x0 a (so_ (fun i τ x => br_ A C nC sN S P i τ x) (2 * sN) sN x0 a b n g - 1) n k = p := f3_is (by rw [e_m]; exact hp3)
              refine v_aload_n dX4_findPass_248 rfl rfl ?_
              refine v_getR fX4_82 dX4_findPass_249 (mK_obj hm) (mR_hops hm) ?_ fcA_I
              refine v_iconst (v := 3) dX4_findPass_252 (by decide) ?_
              refine v_iload dX4_findPass_253 rfl ?_
              refine v_imul dX4_findPass_255 ?_
              refine v_iald dX4_findPass_256 (mK_hops hm) (ix_mul (ix_lit _) rfl) (by first | assumption | omega) ?_
              rw [c3, if_neg (by omega), if_neg (by omega), if_pos rfl]
              refine v_iconst (v := 1) dX4_findPass_257 (by decide) ?_
              refine v_iadd dX4_findPass_258 ?_
              rw [nI_1]
              refine v_istore dX4_findPass_259 (by decide) ?_
              refine v_aload_n dX4_findPass_261 rfl rfl ?_
              refine v_getR fX4_82 dX4_findPass_262 (mK_obj hm) (mR_hops hm) ?_ fcA_I
              refine v_iconst (v := 3) dX4_findPass_265 (by decide) ?_
              refine v_iload dX4_findPass_266 rfl ?_
              refine v_imul dX4_findPass_268 ?_
              refine v_iconst (v := 2) dX4_findPass_269 (by decide) ?_
              refine v_iadd dX4_findPass_270 ?_
              refine v_iald dX4_findPass_271 (mK_hops hm) (ix_add (ix_mul (ix_lit _) rfl) (ix_lit _)) (by first | assumption | omega) ?_
              rw [c3, if_pos rfl]
              refine v_istore dX4_findPass_272 (by decide) ?_
              refine v_iinc dX4_findPass_274 rfl (by first | with_reducible exact nI_inc _ | exact rfl) (by decide) ?_
              refine v_goto (tgt := 225) dX4_findPass_277 (by decide) ?_
              obtain ⟨⟨hp1, hp2⟩, hp4, hp5, ⟨hp6, hp7, hp8, hp9⟩, -⟩ := hp3
              refine v_loc2 (by repeat' (first | with_reducible exact lsub_n | with_reducible refine lsub_c ?_ ?_ | with_reducible refine lk_hit ?_ | with_reducible refine lk_miss (by decide) ?_ ?_ | (first | (rw [ps_s, epw]; done) | exact rfl))) (IHk (k + 1) _ ⟨by omega, by rw [up3_n (by decide)]; exact hG3, by rw [ps_s, epw]; exact hp5, by rw [ps_s, epw]; show a ≤ p.1 + 1; omega, by rw [ps_s, epw, show n - (k + 1) = m by omega]; exact (it_cn m _ _ (by omega)).mp hp9, fun m2 h1 h2 y hy => by rw [up3_n (by decide)]; exact hG7 m2 h1 h2 y hy, fun j hj => ?_, fq_3 hG10⟩ (by omega))
              rcases Nat.lt_succ_iff_lt_or_eq.mp hj with u | u
              · rw [c3, c3, c3, if_neg (by omega), if_neg (by omega), if_neg (by omega), if_neg (by omega), if_neg (by omega), if_neg (by omega), if_neg (by omega), if_neg (by omega), if_neg (by omega)]; exact hG8 j u
              · subst u; rw [epw, c3, c3, c3, if_neg (by omega), if_neg (by omega), if_pos rfl, if_neg (by omega), if_pos rfl, if_pos rfl]; exact ⟨rfl, rfl, rfl⟩
          · skip
            rw [nI_leI (by omega) (by omega)] at b155
            obtain ⟨m, rfl⟩ : ∃ m, r = m + 1 := ⟨r - 1, by omega⟩
            have ez := hzz.2 (by omega)
            subst ez
            refine v_iconst (v := 0) dX4_findPass_158 (by decide) ?_
            refine v_istore dX4_findPass_159 (by decide) ?_
            refine v_loc2 (by repeat' (first | with_reducible exact lsub_n | with_reducible refine lsub_c ?_ ?_ | with_reducible refine lk_hit ?_ | with_reducible refine lk_miss (by decide) ?_ ?_ | exact rfl)) (v_lp2 (fun (s : Nat) (hs9 : AH) => sN + 1 - s) (fun (s : Nat) (hs9 : AH) => s ≤ sN + 1 ∧ hp_I hs9 241 47 = nI n ∧ (∀ y, y < s → hp_I hs9 261 (10 * (m + 1) + y) = nI (la_ (fun i τ x => br_ A C nC sN S P i τ x) (2 * sN) sN g a (so_ (fun i τ x => br_ A C nC sN S P i τ x) (2 * sN) sN x0 a b n g - 1) (m + 1) y) - 1) ∧ (∀ q9, 1 ≤ q9 → q9 < (m + 1) → ∀ y, y < sN + 1 → hp_I hs9 261 (10 * q9 + y) = nI (la_ (fun i τ x => br_ A C nC sN S P i τ x) (2 * sN) sN g a (so_ (fun i τ x => br_ A C nC sN S P i τ x) (2 * sN) sN x0 a b n g - 1) q9 y) - 1) ∧ fq_ h hs9) (fun (s : Nat) (hs9 : AH) => [(0, .ref 241), (1, .int (nI th)), (2, .int (nI g)), (3, .int (nI P)), (4, .int (nI a)), (5, .int (nI b)), (6, .int (nI (so_ (fun i τ x => br_ A C nC sN S P i τ x) (2 * sN) sN x0 a b n g - 1))), (7, .int (nI (m + 1))), (8, .int (nI s))]) (fun (s : Nat) (hs9 : AH) => hs9) ?_ 0 _ ⟨Nat.zero_le _, hE3, fun y hy => absurd hy (Nat.not_lt_zero y), hE5, hE6⟩)
            intro s hs9 hI IHs
            obtain ⟨hS1, hS3, hS5, hS6, hS7⟩ := hI
            have hE8 := fq_LD hS7 hL
            have hm : MI hs9 := hE8.1
            have hS4 := hE8.2.1
            refine v_iload dX4_findPass_161 rfl ?_
            refine v_aload_n dX4_findPass_163 rfl rfl ?_
            refine v_getI fX4_24 dX4_findPass_164 (mK_obj hm) ?_
            rw [hS4]
            refine v_icmp_gt (tgt := 203) dX4_findPass_167 (by decide) (fun b167 => ?_) (fun b167 => ?_)
            · skip
              rw [nI_ltI (by omega) (by omega)] at b167
              have hk9 : sN + 1 = s := by omega
              refine v_iinc dX4_findPass_203 rfl (by first | with_reducible exact nI_inc _ | exact rfl) (by decide) ?_
              refine v_goto (tgt := 149) dX4_findPass_206 (by decide) ?_
              refine v_loc2 (by repeat' (first | with_reducible exact lsub_n | with_reducible refine lsub_c ?_ ?_ | with_reducible refine lk_hit ?_ | with_reducible refine lk_miss (by decide) ?_ ?_ | exact rfl)) (IHr (m + 1 + 1) _ ⟨⟨by omega, by omega⟩, hS3, fun m2 h1 h2 y hy => (Nat.lt_succ_iff_lt_or_eq.mp h2).elim (fun u => hS6 m2 h1 u y hy) (fun u => by rw [u]; exact hS5 y (by omega)), hS7⟩ (by omega))
            · skip
              rw [nI_ltI (by omega) (by omega)] at b167
              have hk9 : s < sN + 1 := by omega
              refine v_aload_n dX4_findPass_170 rfl rfl ?_
              refine v_getR fX4_79 dX4_findPass_171 (mK_obj hm) (mR_latest hm) ?_ fcA_I
              refine v_bipush (v := 10) dX4_findPass_174 (by decide) ?_
              refine v_iload dX4_findPass_176 rfl ?_
              refine v_imul dX4_findPass_178 ?_
              refine v_iload dX4_findPass_179 rfl ?_
              refine v_iadd dX4_findPass_181 ?_
              refine v_aload_n dX4_findPass_182 rfl rfl ?_
              refine v_iload_n dX4_findPass_183 rfl rfl ?_
              refine v_iload dX4_findPass_184 rfl ?_
              refine v_iload dX4_findPass_186 rfl ?_
              refine v_iload_n dX4_findPass_188 rfl rfl ?_
              refine v_iload dX4_findPass_189 rfl ?_
              refine v_iload dX4_findPass_191 rfl ?_
              refine v_pV mtX4_latestFrom q2124 q2126 qs108 rfl (by decide) dX4_findPass_193 (c_X4_latestFrom (m := m) (s := s) (e := (so_ (fun i τ x => br_ A C nC sN S P i τ x) (2 * sN) sN x0 a b n g - 1)) hv hE8 hP (by omega) hk9 hg ha (by omega) (fun z hz h0 => by rcases m with _ | m2; exact absurd h0 (Nat.lt_irrefl 0); exact hS6 (m2 + 1) (by omega) (by omega) z hz)) (mK_obj hm) (by decide) ?_
              refine v_iast dX4_findPass_196 (mK_latest hm) (ix_add (ix_mul (ix_lit _) rfl) rfl) (by first | assumption | omega) ?_
              refine v_iinc dX4_findPass_197 rfl (by first | with_reducible exact nI_inc _ | exact rfl) (by decide) ?_
              refine v_goto (tgt := 161) dX4_findPass_200 (by decide) ?_
              refine v_loc2 (by repeat' (first | with_reducible exact lsub_n | with_reducible refine lsub_c ?_ ?_ | with_reducible refine lk_hit ?_ | with_reducible refine lk_miss (by decide) ?_ ?_ | exact rfl)) (IHs (s + 1) _ ⟨by omega, by rw [II_n (by decide)]; exact hS3, fun y hy => ?_, fun m2 h1 h2 y hy => ?_, fq_I hS7 (by omega)⟩ (by omega))
              · rw [hp_I_I]; rcases Nat.lt_succ_iff_lt_or_eq.mp hy with u | u
                · rw [if_neg (by omega)]; exact hS5 y u
                · subst u; rw [if_pos ⟨rfl, rfl⟩]
              · rw [hp_I_I, if_neg (by omega)]; exact hS6 m2 h1 h2 y hy
        · skip
          refine v_aload_n dX4_findPass_119 rfl rfl ?_
          refine v_getI fX4_401 dX4_findPass_120 (mK_obj hm) ?_
          rw [hD2]
          refine v_if_ne (tgt := 130) dX4_findPass_123 (by decide) (fun b123 => ?_) (fun b123 => ?_)
          · skip
            have hn0 : 0 < n := Nat.pos_of_ne_zero (fun z => b123 (by rw [z]; rfl))
            have hsp : 1 ≤ so_ (fun i τ x => br_ A C nC sN S P i τ x) (2 * sN) sN x0 a b n g := by obtain ⟨n2, rfl⟩ : ∃ k, n = k + 1 := ⟨n - 1, by omega⟩; exact (fs_le _ (by omega)).1
            refine v_aload_n dX4_findPass_130 rfl rfl ?_
            refine v_getR fX4_76 dX4_findPass_131 (mK_obj hm) (mR_soonest hm) ?_ fcA_I
            refine v_bipush (v := 10) dX4_findPass_134 (by decide) ?_
            refine v_aload_n dX4_findPass_136 rfl rfl ?_
            refine v_getI fX4_401 dX4_findPass_137 (mK_obj hm) ?_
            rw [hD2]
            refine v_imul dX4_findPass_140 ?_
            refine v_iload_n dX4_findPass_141 rfl rfl ?_
            refine v_iadd dX4_findPass_142 ?_
            refine v_iald dX4_findPass_143 (mK_soonest hm) (ix_add (ix_mul (ix_lit _) rfl) rfl) (by first | assumption | omega) ?_
            rw [hD3 n (Nat.le_refl _) g (by omega)]
            exact hj144 _ (by first | exact ⟨fun _ => rfl, fun y => by omega⟩ | exact ⟨fun y => by omega, fun _ => by rw [show so_ (fun i τ x => br_ A C nC sN S P i τ x) (2 * sN) sN x0 a b n g = (so_ (fun i τ x => br_ A C nC sN S P i τ x) (2 * sN) sN x0 a b n g - 1) + 1 by omega, nI_pred]; simp only [Nat.add_sub_cancel]⟩)
          · skip
            have hn0 : n = 0 := (nI_eq (by omega) (by decide)).mp (show nI n = nI 0 from b123)
            refine v_iconst (v := (-1)) dX4_findPass_126 (by decide) ?_
            refine v_goto (tgt := 144) dX4_findPass_127 (by decide) ?_
            exact hj144 _ (by first | exact ⟨fun _ => rfl, fun y => by omega⟩ | exact ⟨fun y => by omega, fun _ => by rw [show so_ (fun i τ x => br_ A C nC sN S P i τ x) (2 * sN) sN x0 a b n g = (so_ (fun i τ x => br_ A C nC sN S P i τ x) (2 * sN) sN x0 a b n g - 1) + 1 by omega, nI_pred]; simp only [Nat.add_sub_cancel]⟩)
      · skip
        rw [nI_d100 (hsl _ _)] at b114
        have hn10 := hz98.resolve_right (fun z => z b114)
        subst hn10
        have eN : nn_ (fun n => so_ (fun i τ x => br_ A C nC sN S P i τ x) (2 * sN) sN x0 a b n g) 10 = 10 := nn_at (f := fun n => so_ (fun i τ x => br_ A C nC sN S P i τ x) (2 * sN) sN x0 a b n g) 10 hD5
        have hnf : so_ (fun i τ x => br_ A C nC sN S P i τ x) (2 * sN) sN x0 a b (nn_ (fun n => so_ (fun i τ x => br_ A C nC sN S P i τ x) (2 * sN) sN x0 a b n g) 10) g = 101 := by rw [eN]; exact b114
        refine v_iconst (v := 0) dX4_findPass_117 (by decide) ?_
        exact v_reti dX4_findPass_118 (by first | rfl | exact rt_c | exact rt_z | exact Or.inr rfl) ⟨congrArg (fun z => some (Value.int z)) (b2c_f (fun z => z hnf)).symm, hD6, fun z => absurd hnf z⟩
    · skip
      refine v_aload_n dX4_findPass_46 rfl rfl ?_
      refine v_getI fX4_401 dX4_findPass_47 (mK_obj hm) ?_
      rw [hD2]
      refine v_bipush (v := nI 10) dX4_findPass_50 (by decide) ?_
      refine v_icmp_ge (tgt := 98) dX4_findPass_52 (by decide) (fun b52 => ?_) (fun b52 => ?_)
      · skip
        rw [nI_leI (by omega) (by omega)] at b52
        have hq : n = 10 ∨ ¬ so_ (fun i τ x => br_ A C nC sN S P i τ x) (2 * sN) sN x0 a b n g = 101 := Or.inl (by omega)
        exact hc98 hq
      · skip
        rw [nI_leI (by omega) (by omega)] at b52
        refine v_aload_n dX4_findPass_55 rfl rfl ?_
        refine v_getR fX4_76 dX4_findPass_56 (mK_obj hm) (mR_soonest hm) ?_ fcA_I
        refine v_bipush (v := 10) dX4_findPass_59 (by decide) ?_
        refine v_aload_n dX4_findPass_61 rfl rfl ?_
        refine v_getI fX4_401 dX4_findPass_62 (mK_obj hm) ?_
        rw [hD2]
        refine v_imul dX4_findPass_65 ?_
        refine v_iload_n dX4_findPass_66 rfl rfl ?_
        refine v_iadd dX4_findPass_67 ?_
        refine v_iald dX4_findPass_68 (mK_soonest hm) (ix_add (ix_mul (ix_lit _) rfl) rfl) (by first | assumption | omega) ?_
        rw [hD3 n (Nat.le_refl _) g (by omega)]
        refine v_bipush (v := nI 100) dX4_findPass_69 (by decide) ?_
        refine v_icmp_ne (tgt := 98) dX4_findPass_71 (by decide) (fun b71 => ?_) (fun b71 => ?_)
        · skip
          rw [nI_d100 (hsl _ _)] at b71
          have hq : n = 10 ∨ ¬ so_ (fun i τ x => br_ A C nC sN S P i τ x) (2 * sN) sN x0 a b n g = 101 := Or.inr b71
          exact hc98 hq
        · skip
          rw [nI_d100 (hsl _ _)] at b71
          refine v_aload_n dX4_findPass_74 rfl rfl ?_
          refine v_iload_n dX4_findPass_75 rfl rfl ?_
          refine v_aload_n dX4_findPass_76 rfl rfl ?_
          refine v_getI fX4_401 dX4_findPass_77 (mK_obj hm) ?_
          rw [hD2]
          refine v_iload dX4_findPass_80 rfl ?_
          refine v_zV mtX4_hopsOn q2108 q2110 qs104 rfl (by decide) dX4_findPass_82 (c_X4_hopsOn (n := n) (x0 := x0) (a := a) hv (fq_LD hD6 hL) hP (by omega) (by omega) hb (hD3 n (Nat.le_refl _)) (hD4 (n + 1) (by omega) (by omega))) (mK_obj hm) (by decide) (fun r82 h82 q82 z82 => ?_)
          obtain ⟨rfl, hhu, hnew⟩ := q82
          have hm : MI h82 := hu_m hhu hm
          have eh82 : hp_I h82 241 47 = nI n := by rw [hhu.2.2.2.2.1 241 (by decide)]; exact hD2
          refine v_aload_n dX4_findPass_85 rfl rfl ?_
          refine v_dup dX4_findPass_86 rfl ?_
          refine v_getI fX4_401 dX4_findPass_87 (mK_obj hm) ?_
          rw [eh82]
          refine v_iconst (v := 1) dX4_findPass_90 (by decide) ?_
          refine v_iadd dX4_findPass_91 ?_
          rw [nI_1]
          refine v_putI fX4_401 (.inl rfl) dX4_findPass_92 (mK_obj hm) ?_
          refine v_goto (tgt := 46) dX4_findPass_95 (by decide) ?_
          refine v_loc2 (by repeat' (first | with_reducible exact lsub_n | with_reducible refine lsub_c ?_ ?_ | with_reducible refine lk_hit ?_ | with_reducible refine lk_miss (by decide) ?_ ?_ | exact rfl)) (IH (n + 1) _ ⟨by omega, by rw [hp_I_I, if_pos ⟨rfl, rfl⟩], fun m hm9 y hy => ?_, fun m h1 h2 y hy => ?_, fun m hm9 => ?_, fq_f (fq_hu hD6 hhu)⟩ (by omega))
          · rw [II_n (by decide)]; rcases Nat.lt_or_ge m (n + 1) with z | z
            · rw [hhu.2.2.2.2.2 _ (Or.inl (by omega))]; exact hD3 m (by omega) y hy
            · rw [show m = n + 1 by omega]; exact hnew y hy
          · rw [II_n (by decide), hhu.2.2.2.2.2 _ (Or.inr (by omega))]; exact hD4 m (by omega) h2 y hy
          · exact (Nat.lt_succ_iff_lt_or_eq.mp hm9).elim (hD5 m) (fun u => by rw [u]; exact b71)
  · skip
    rw [nI_leI (by omega) (by omega)] at b7
    refine v_aload_n dX4_findPass_10 rfl rfl ?_
    refine v_getR fX4_76 dX4_findPass_11 (mK_obj hm) (mR_soonest hm) ?_ fcA_I
    refine v_iload dX4_findPass_14 rfl ?_
    refine v_bipush (v := 100) dX4_findPass_16 (by decide) ?_
    refine v_iast dX4_findPass_18 (mK_soonest hm) rfl (by first | assumption | omega) ?_
    refine v_iinc dX4_findPass_19 rfl (by first | with_reducible exact nI_inc _ | exact rfl) (by decide) ?_
    refine v_goto (tgt := 3) dX4_findPass_22 (by decide) ?_
    refine v_loc2 (by repeat' (first | with_reducible exact lsub_n | with_reducible refine lsub_c ?_ ?_ | with_reducible refine lk_hit ?_ | with_reducible refine lk_miss (by decide) ?_ ?_ | exact rfl)) (IH (k + 1) _ ⟨by omega, fq_I hF (by omega), fun i hi => ?_⟩ (by omega))
    rw [hp_I_I]
    by_cases z : i = k
    · rw [if_pos ⟨rfl, z⟩]; rfl
    · rw [if_neg (fun y => z y.2)]; exact hI2 i (by omega)

