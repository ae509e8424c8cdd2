set_option maxRecDepth 100000
/-- the first of so many seconds, one more; 101 without -/
noncomputable def fs_ (Q : Nat → Prop) : Nat → Nat
  | 0 => 101
  | k + 1 => @ite _ (fs_ Q k = 101 ∧ Q k) (Classical.propDecidable _) (k + 1) (fs_ Q k)
theorem fs_s (Q : Nat → Prop) (k : Nat) : fs_ Q (k + 1) = @ite _ (fs_ Q k = 101 ∧ Q k) (Classical.propDecidable _) (k + 1) (fs_ Q k) := rfl
theorem fs_spec (Q : Nat → Prop) : ∀ k, k ≤ 100 → (fs_ Q k = 101 ∧ ∀ t, t < k → ¬ Q t) ∨ (∃ t, t < k ∧ fs_ Q k = t + 1 ∧ Q t ∧ ∀ u, u < t → ¬ Q u)
  | 0, _ => Or.inl ⟨rfl, fun t ht => absurd ht (Nat.not_lt_zero t)⟩
  | k + 1, hk => by
    rw [fs_s]
    rcases fs_spec Q k (by omega) with ⟨h1, h2⟩ | ⟨t, h1, h2, h3, h4⟩
    · by_cases z : Q k
      · rw [if_pos ⟨h1, z⟩]
        exact Or.inr ⟨k, by omega, rfl, z, h2⟩
      · rw [if_neg (fun y => z y.2)]
        exact Or.inl ⟨h1, fun t ht => (Nat.lt_succ_iff_lt_or_eq.mp ht).elim (h2 t) (fun y => by rw [y]; exact z)⟩
    · rw [if_neg (fun y => by omega)]
      exact Or.inr ⟨t, by omega, h2, h3, h4⟩
/-- what is the first, by its law -/
theorem fs_is {Q : Nat → Prop} {k v : Nat} (hk : k ≤ 100) (h1 : v = 101 ∨ ∃ t, t < k ∧ v = t + 1 ∧ Q t) (h2 : ∀ t, t < k → Q t → v ≤ t + 1) : v = fs_ Q k := by
  rcases fs_spec Q k hk with ⟨g1, g2⟩ | ⟨t, g1, g2, g3, g4⟩
  · rcases h1 with h1 | ⟨u, h3, h4, h5⟩
    · rw [h1, g1]
    · exact absurd h5 (g2 u h3)
  · have := h2 t g1 g3
    rcases h1 with h1 | ⟨u, h3, h4, h5⟩
    · omega
    · rcases Nat.lt_or_ge u t with z | z
      · exact absurd h5 (g4 u z)
      · omega
theorem fs_le (Q : Nat → Prop) {k : Nat} (hk : k ≤ 100) : 1 ≤ fs_ Q k ∧ fs_ Q k ≤ 101 := by
  rcases fs_spec Q k hk with ⟨g1, -⟩ | ⟨t, g1, g2, -⟩ <;> omega
/-- a hop from spot to spot -/
def hop_ (B : Nat → Nat → Nat → Prop) (n2 t x y : Nat) : Prop := ∃ i, i < n2 ∧ B i t x ∧ B i t y
/-- by hops and spots: from which second on one can go on; 101 without -/
noncomputable def so_ (B : Nat → Nat → Nat → Prop) (n2 sN x0 a b : Nat) : Nat → Nat → Nat
  | 0, y => if y = x0 then a else 101
  | n + 1, y => fs_ (fun t => ∃ x, x < sN + 1 ∧ ¬ x = y ∧ so_ B n2 sN x0 a b n x ≤ t ∧ hop_ B n2 t x y) (b + 1)
theorem so_s (B : Nat → Nat → Nat → Prop) (n2 sN x0 a b n y : Nat) : so_ B n2 sN x0 a b (n + 1) y = fs_ (fun t => ∃ x, x < sN + 1 ∧ ¬ x = y ∧ so_ B n2 sN x0 a b n x ≤ t ∧ hop_ B n2 t x y) (b + 1) := rfl
theorem so_le {B : Nat → Nat → Nat → Prop} {n2 sN x0 a b : Nat} (hb : b < 100) (ha : a < 100) : ∀ n y, so_ B n2 sN x0 a b n y ≤ 101
  | 0, y => by show (if y = x0 then a else 101) ≤ 101; split <;> omega
  | n + 1, y => (fs_le _ (by omega)).2
theorem so_ge {B : Nat → Nat → Nat → Prop} {n2 sN x0 a b : Nat} (hb : b < 100) (ha : a < 100) : ∀ n y, a ≤ so_ B n2 sN x0 a b n y
  | 0, y => by show a ≤ (if y = x0 then a else 101); split <;> omega
  | n + 1, y => by
    rw [so_s]
    rcases fs_spec (fun t => ∃ x, x < sN + 1 ∧ ¬ x = y ∧ so_ B n2 sN x0 a b n x ≤ t ∧ hop_ B n2 t x y) (b + 1) (by omega) with ⟨g1, -⟩ | ⟨t, g1, g2, ⟨x, y1, y2, y3, y4⟩, -⟩
    · omega
    · have := so_ge (B := B) (n2 := n2) (sN := sN) (x0 := x0) hb ha n x
      omega
/-- the last of so many seconds from one on, one more; 0 without -/
noncomputable def gs_ (Q : Nat → Prop) (lo : Nat) : Nat → Nat
  | 0 => 0
  | k + 1 => @ite _ (lo ≤ k ∧ Q k) (Classical.propDecidable _) (k + 1) (gs_ Q lo k)
theorem gs_s (Q : Nat → Prop) (lo k : Nat) : gs_ Q lo (k + 1) = @ite _ (lo ≤ k ∧ Q k) (Classical.propDecidable _) (k + 1) (gs_ Q lo k) := rfl
theorem gs_le (Q : Nat → Prop) (lo : Nat) : ∀ k, gs_ Q lo k ≤ k
  | 0 => Nat.le_refl _
  | k + 1 => by
    rw [gs_s]
    have := gs_le Q lo k
    split <;> omega
theorem gs_lt {Q : Nat → Prop} {lo t : Nat} : ∀ k, t + 1 < gs_ Q lo k ↔ ∃ u, t < u ∧ u < k ∧ lo ≤ u ∧ Q u
  | 0 => ⟨fun z => absurd z (Nat.not_lt_zero _), fun ⟨u, _, z, _⟩ => absurd z (Nat.not_lt_zero u)⟩
  | k + 1 => by
    rw [gs_s]
    by_cases z : lo ≤ k ∧ Q k
    · rw [if_pos z]
      exact ⟨fun y => ⟨k, by omega, by omega, z.1, z.2⟩, fun ⟨u, y1, y2, _⟩ => by omega⟩
    · rw [if_neg z, gs_lt k]
      exact ⟨fun ⟨u, y1, y2, y3⟩ => ⟨u, y1, by omega, y3⟩, fun ⟨u, y1, y2, y3⟩ => ⟨u, y1, Nat.lt_of_le_of_ne (by omega) (fun e => z (by rw [← e]; exact y3)), y3⟩⟩
def it0_ (l : Nat → Nat) (g m z t : Nat) : Prop := (m = 0 ∧ z = g) ∨ (0 < m ∧ t + 1 < l z)
/-- by hops left and spots: the last second of the next one, one more; 0 without -/
noncomputable def la_ (B : Nat → Nat → Nat → Prop) (n2 sN g a e : Nat) : Nat → Nat → Nat
  | 0, _ => 0
  | m + 1, s => gs_ (fun t => ∃ i, i < n2 ∧ B i t s ∧ ∃ z, z < sN + 1 ∧ ¬ z = s ∧ B i t z ∧ it0_ (la_ B n2 sN g a e m) g m z t) a (e + 1)
theorem la_s (B : Nat → Nat → Nat → Prop) (n2 sN g a e m s : Nat) : la_ B n2 sN g a e (m + 1) s = gs_ (fun t => ∃ i, i < n2 ∧ B i t s ∧ ∃ z, z < sN + 1 ∧ ¬ z = s ∧ B i t z ∧ it0_ (la_ B n2 sN g a e m) g m z t) a (e + 1) := rfl
theorem la_le (B : Nat → Nat → Nat → Prop) (n2 sN g a e : Nat) : ∀ m s, la_ B n2 sN g a e m s ≤ e + 1
  | 0, _ => Nat.zero_le _
  | m + 1, s => gs_le _ _ _
/-- a row of hops can be brought to its end, the next one not ahead of a second -/
def cw_ (B : Nat → Nat → Nat → Prop) (n2 sN g e : Nat) : Nat → Nat → Nat → Prop
  | 0, y, _ => y = g
  | m + 1, y, t => ∃ u, t ≤ u ∧ u ≤ e ∧ ∃ i, i < n2 ∧ B i u y ∧ ∃ z, z < sN + 1 ∧ ¬ z = y ∧ B i u z ∧ cw_ B n2 sN g e m z (u + 1)
theorem it_cn {B : Nat → Nat → Nat → Prop} {n2 sN g a e : Nat} : ∀ m z t, a ≤ t → (it0_ (la_ B n2 sN g a e m) g m z t ↔ cw_ B n2 sN g e m z (t + 1))
  | 0, z, t, _ => ⟨fun y => y.elim (fun u => u.2) (fun u => absurd u.1 (Nat.lt_irrefl 0)), fun y => Or.inl ⟨rfl, y⟩⟩
  | m + 1, z, t, ht => by
    have key : t + 1 < la_ B n2 sN g a e (m + 1) z ↔ cw_ B n2 sN g e (m + 1) z (t + 1) := by
      rw [la_s, gs_lt]
      constructor
      · rintro ⟨u, h1, h2, h3, i, h4, h5, y, h6, h7, h8, h9⟩
        exact ⟨u, by omega, by omega, i, h4, h5, y, h6, h7, h8, (it_cn m y u h3).mp h9⟩
      · rintro ⟨u, h1, h2, i, h4, h5, y, h6, h7, h8, h9⟩
        exact ⟨u, by omega, by omega, by omega, i, h4, h5, y, h6, h7, h8, (it_cn m y u (by omega)).mpr h9⟩
    exact ⟨fun y => y.elim (fun u => absurd u.1 (Nat.succ_ne_zero m)) (fun u => key.mp u.2), fun y => Or.inr ⟨Nat.succ_pos m, key.mpr y⟩⟩
theorem so_cn {B : Nat → Nat → Nat → Prop} {n2 sN x0 g a b e : Nat} (hb : b < 100) (ha : a < 100) : ∀ n y m, so_ B n2 sN x0 a b n y ≤ 100 → so_ B n2 sN x0 a b n y ≤ e + 1 → cw_ B n2 sN g e m y (so_ B n2 sN x0 a b n y) → y < sN + 1 → cw_ B n2 sN g e (n + m) x0 a
  | 0, y, m, h1, _, h3, _ => by
    have e0 : y = x0 := Classical.byContradiction fun z => by
      have : so_ B n2 sN x0 a b 0 y = 101 := if_neg z
      omega
    subst e0
    have : so_ B n2 sN y a b 0 y = a := if_pos rfl
    rw [this] at h3
    rw [Nat.zero_add]; exact h3
  | n + 1, y, m, h1, h2, h3, hy => by
    rw [so_s] at h1 h2 h3
    rcases fs_spec (fun t => ∃ x, x < sN + 1 ∧ ¬ x = y ∧ so_ B n2 sN x0 a b n x ≤ t ∧ hop_ B n2 t x y) (b + 1) (by omega) with ⟨g1, -⟩ | ⟨t, g1, g2, ⟨x, y1, y2, y3, i, y4, y5, y6⟩, -⟩
    · omega
    · rw [g2] at h1 h2 h3
      rw [show n + 1 + m = n + (m + 1) by omega]
      exact so_cn hb ha n x (m + 1) (by omega) (by omega) ⟨t, y3, by omega, i, y4, y5, y, hy, fun z => y2 z.symm, y6, h3⟩ y1
/-- rows of one number of hops alone differ -/
def hu_ (n : Nat) (h h' : AH) : Prop := hp_n h' = hp_n h ∧ hp_K h' = hp_K h ∧ hp_R h' = hp_R h ∧ hp_L h' = hp_L h ∧ (∀ p, p ≠ 260 → hp_I h' p = hp_I h p) ∧ ∀ j, (j < 10 * n ∨ 10 * n + 10 ≤ j) → hp_I h' 260 j = hp_I h 260 j
theorem hu_rf (n : Nat) (h : AH) : hu_ n h h := ⟨rfl, rfl, rfl, rfl, fun _ _ => rfl, fun _ _ => rfl⟩
theorem hu_I {n : Nat} {h h1 : AH} {k : Nat} {v : Int32} (a : hu_ n h h1) (hk : k < 10) : hu_ n h (up_I h1 260 (10 * n + k) v) := ⟨a.1, a.2.1, a.2.2.1, a.2.2.2.1, fun p hp => by rw [II_n hp]; exact a.2.2.2.2.1 p hp, fun j hj => by rw [hp_I_I, if_neg (fun z => by omega)]; exact a.2.2.2.2.2 j hj⟩
theorem hu_m {n : Nat} {h h1 : AH} (a : hu_ n h h1) (hm : MI h) : MI h1 := MI_of hm (fun p _ _ => by rw [a.2.1]) (fun k => by rw [a.2.2.1])
theorem hu_LD {n : Nat} {A : Nat → Int32} {C : Nat → Nat → Int32} {nC sN : Nat} {S : Int32} {h h1 : AH} (a : hu_ n h h1) (hL : LD_ A C nC sN S h) : LD_ A C nC sN S h1 := ⟨hu_m a hL.1, by rw [a.2.2.2.2.1 241 (by decide)]; exact hL.2.1, by rw [a.2.2.2.2.1 243 (by decide)]; exact hL.2.2.1, fun t ht j hj s hs => by rw [a.2.2.2.2.1 (245 + j) (by omega)]; exact hL.2.2.2 t ht j hj s hs⟩
/-- what the row being made holds, and that it is sound -/
def GV_ (B : Nat → Nat → Nat → Prop) (n2 sN b n : Nat) (s0 : Nat → Nat) (h : AH) (v : Nat → Nat) : Prop := ∀ y, y < sN + 1 → (hp_I h 260 (10 * (n + 1) + y) = nI (v y) - 1 ∧ 1 ≤ v y ∧ v y ≤ 101) ∧ (v y = 101 ∨ ∃ t, t < b + 1 ∧ v y = t + 1 ∧ ∃ x, x < sN + 1 ∧ ¬ x = y ∧ s0 x ≤ t ∧ hop_ B n2 t x y)
theorem GV_u {B : Nat → Nat → Nat → Prop} {n2 sN b n : Nat} {s0 : Nat → Nat} {h : AH} {v : Nat → Nat} (G : GV_ B n2 sN b n s0 h v) {t x y i : Nat} (ht : t < b + 1) (hb : b < 100) (hx : x < sN + 1) (hxy : ¬ x = y) (hs : s0 x ≤ t) (hi : i < n2) (h1 : B i t x) (h2 : B i t y) : GV_ B n2 sN b n s0 (up_I h 260 (10 * (n + 1) + y) (nI t)) (fun k => if k = y then t + 1 else v k) := fun z hz => by
  by_cases e : z = y
  · subst e
    simp only [if_pos]
    refine ⟨⟨by rw [hp_I_I, if_pos ⟨rfl, rfl⟩, nI_pred], by omega, by omega⟩, Or.inr ⟨t, ht, rfl, x, hx, hxy, hs, i, hi, h1, h2⟩⟩
  · simp only [if_neg e]
    rw [hp_I_I, if_neg (fun u => e (by omega))]
    exact G z hz
set_option maxHeartbeats 2000000 in
theorem c_X4_hopsOn {G : Gv} {h : AH} {A : Nat → Int32} {C : Nat → Nat → Int32} {sN nC : Nat} {S : Int32} (hv : sv_ok A sN) (hL : LD_ A C nC sN S h) {P n x0 a b : Nat} (hP : P < 512) (hn : n < 10) (ha : a < 100) (hb : b < 100) (hin : ∀ y, y < sN + 1 → hp_I h 260 (10 * n + y) = nI (so_ (fun i τ x => br_ A C nC sN S P i τ x) (2 * sN) sN x0 a b n y) - 1) (hout : ∀ y, y < sN + 1 → hp_I h 260 (10 * (n + 1) + y) = nI 100) : Ctr G 5 yX4_hopsOn cX4_hopsOn 10 none [.ref 241, .int (nI P), .int (nI n), .int (nI b)] h 0 0 (fun q h1 => q = none ∧ hu_ (n + 1) h h1 ∧ ∀ y, y < sN + 1 → hp_I h1 260 (10 * (n + 1) + y) = nI (so_ (fun i τ x => br_ A C nC sN S P i τ x) (2 * sN) sN x0 a b (n + 1) y) - 1) := by
  refine ctr_of (own := RX4) (nm := "hopsOn") (by decide) (Nat.le_of_ble_eq_true rfl) ?_
  have hm := hL.1
  have hs := hL.2.1
  have hA := hL.2.2.1
  have h3 := sv_s hv
  refine v_iconst (v := 0) dX4_hopsOn_0 (by decide) ?_
  refine v_istore dX4_hopsOn_1 (by decide) ?_
  refine v_loc2 (by repeat' (first | with_reducible exact lsub_n | with_reducible refine lsub_c ?_ ?_ | with_reducible refine lk_hit ?_ | with_reducible refine lk_miss (by decide) ?_ ?_ | exact rfl)) (v_lp3 (fun (s : Nat) (hA9 : AH) (v : Nat → Nat) => sN + 1 - s) (fun (s : Nat) (hA9 : AH) (v : Nat → Nat) => s ≤ sN + 1 ∧ hu_ (n + 1) h hA9 ∧ GV_ (fun i τ x => br_ A C nC sN S P i τ x) (2 * sN) sN b n (so_ (fun i τ x => br_ A C nC sN S P i τ x) (2 * sN) sN x0 a b n) hA9 v ∧ ∀ x, x < s → ∀ t, so_ (fun i τ x => br_ A C nC sN S P i τ x) (2 * sN) sN x0 a b n x ≤ t → t < b + 1 → ∀ i, i < 2 * sN → br_ A C nC sN S P i t x → ∀ y, y < sN + 1 → ¬ x = y → br_ A C nC sN S P i t y → v y ≤ t + 1) (fun (s : Nat) (hA9 : AH) (v : Nat → Nat) => [(0, .ref 241), (1, .int (nI P)), (2, .int (nI n)), (3, .int (nI b)), (4, .int (nI s))]) (fun (s : Nat) (hA9 : AH) (v : Nat → Nat) => hA9) ?_ 0 _ (fun _ => 101) ⟨Nat.zero_le _, hu_rf _ _, fun y hy => ⟨⟨by show _ = nI (100 + 1) - 1; rw [hout y hy, nI_pred], by show 1 ≤ 101; decide, by show 101 ≤ 101; decide⟩, Or.inl rfl⟩, fun x hx => absurd hx (Nat.not_lt_zero x)⟩)
  intro s hA9 v hI IH
  obtain ⟨hI1, hR1, hV3, hV4⟩ := hI
  have hLs := hu_LD hR1 hL
  have hm : MI hA9 := hLs.1
  have eS : hp_I hA9 241 4 = nI sN := hLs.2.1
  have eR0 : ∀ y, y < 10 → hp_I hA9 260 (10 * n + y) = hp_I h 260 (10 * n + y) := fun y z => hR1.2.2.2.2.2 _ (Or.inl (by omega))
  refine v_iload dX4_hopsOn_3 rfl ?_
  refine v_aload_n dX4_hopsOn_5 rfl rfl ?_
  refine v_getI fX4_24 dX4_hopsOn_6 (mK_obj hm) ?_
  rw [eS]
  refine v_icmp_gt (tgt := 168) dX4_hopsOn_9 (by decide) (fun b9 => ?_) (fun b9 => ?_)
  · skip
    rw [nI_ltI (by omega) (by omega)] at b9
    have hk : sN + 1 = s := by omega
    refine v_retv dX4_hopsOn_168 trivial ⟨rfl, hR1, fun y hy => ?_⟩
    obtain ⟨⟨y1, -⟩, y2⟩ := hV3 y hy
    rw [y1, so_s, ← fs_is (by omega) y2 (fun t ht ⟨x, z1, z2, z3, i, z4, z5, z6⟩ => hV4 x (by omega) t z3 ht i z4 z5 y hy z2 z6)]
  · skip
    rw [nI_ltI (by omega) (by omega)] at b9
    have hk : s < sN + 1 := by omega
    have hsl := so_le (B := (fun i τ x => br_ A C nC sN S P i τ x)) (n2 := 2 * sN) (sN := sN) (x0 := x0) hb ha n s
    refine v_aload_n dX4_hopsOn_12 rfl rfl ?_
    refine v_getR fX4_76 dX4_hopsOn_13 (mK_obj hm) (mR_soonest hm) ?_ fcA_I
    refine v_bipush (v := 10) dX4_hopsOn_16 (by decide) ?_
    refine v_iload_n dX4_hopsOn_18 rfl rfl ?_
    refine v_imul dX4_hopsOn_19 ?_
    refine v_iload dX4_hopsOn_20 rfl ?_
    refine v_iadd dX4_hopsOn_22 ?_
    refine v_iald dX4_hopsOn_23 (mK_soonest hm) (ix_add (ix_mul (ix_lit _) rfl) rfl) (by first | assumption | omega) ?_
    rw [eR0 s (by omega), hin s hk]
    refine v_iconst (v := 1) dX4_hopsOn_24 (by decide) ?_
    refine v_iadd dX4_hopsOn_25 ?_
    rw [show nI (so_ (fun i τ x => br_ A C nC sN S P i τ x) (2 * sN) sN x0 a b n s) - 1 + 1 = nI (so_ (fun i τ x => br_ A C nC sN S P i τ x) (2 * sN) sN x0 a b n s) from Int32.sub_add_cancel _ _]
    refine v_istore dX4_hopsOn_26 (by decide) ?_
    refine v_loc2 (by repeat' (first | with_reducible exact lsub_n | with_reducible refine lsub_c ?_ ?_ | with_reducible refine lk_hit ?_ | with_reducible refine lk_miss (by decide) ?_ ?_ | exact rfl)) (v_lp3 (fun (t : Nat) (hB9 : AH) (w9 : Nat → Nat) => b + 1 - t) (fun (t : Nat) (hB9 : AH) (w9 : Nat → Nat) => (so_ (fun i τ x => br_ A C nC sN S P i τ x) (2 * sN) sN x0 a b n s ≤ t ∧ t ≤ max (b + 1) (so_ (fun i τ x => br_ A C nC sN S P i τ x) (2 * sN) sN x0 a b n s)) ∧ hu_ (n + 1) h hB9 ∧ GV_ (fun i τ x => br_ A C nC sN S P i τ x) (2 * sN) sN b n (so_ (fun i τ x => br_ A C nC sN S P i τ x) (2 * sN) sN x0 a b n) hB9 w9 ∧ (∀ y, y < sN + 1 → w9 y ≤ v y) ∧ ∀ τ, so_ (fun i τ x => br_ A C nC sN S P i τ x) (2 * sN) sN x0 a b n s ≤ τ → τ < t → ∀ i, i < 2 * sN → br_ A C nC sN S P i τ s → ∀ y, y < sN + 1 → ¬ s = y → br_ A C nC sN S P i τ y → w9 y ≤ τ + 1) (fun (t : Nat) (hB9 : AH) (w9 : Nat → Nat) => [(0, .ref 241), (1, .int (nI P)), (2, .int (nI n)), (3, .int (nI b)), (4, .int (nI s)), (5, .int (nI t))]) (fun (t : Nat) (hB9 : AH) (w9 : Nat → Nat) => hB9) ?_ (so_ (fun i τ x => br_ A C nC sN S P i τ x) (2 * sN) sN x0 a b n s) _ v ⟨⟨Nat.le_refl _, by omega⟩, hR1, hV3, fun y _ => Nat.le_refl _, fun τ h1 h2 => absurd h2 (Nat.not_lt.mpr h1)⟩)
    intro t hB9 w9 hI IH2
    obtain ⟨⟨hT1, hT2⟩, hQ1, hW3, hW4, hW5⟩ := hI
    have hLt := hu_LD hQ1 hL
    have hm : MI hB9 := hLt.1
    refine v_iload dX4_hopsOn_28 rfl ?_
    refine v_iload_n dX4_hopsOn_30 rfl rfl ?_
    refine v_icmp_gt (tgt := 162) dX4_hopsOn_31 (by decide) (fun b31 => ?_) (fun b31 => ?_)
    · skip
      rw [nI_ltI (by omega) (by omega)] at b31
      refine v_iinc dX4_hopsOn_162 rfl (by first | with_reducible exact nI_inc _ | exact rfl) (by decide) ?_
      refine v_goto (tgt := 3) dX4_hopsOn_165 (by decide) ?_
      refine v_loc2 (by repeat' (first | with_reducible exact lsub_n | with_reducible refine lsub_c ?_ ?_ | with_reducible refine lk_hit ?_ | with_reducible refine lk_miss (by decide) ?_ ?_ | exact rfl)) (IH (s + 1) _ w9 ⟨by omega, hQ1, hW3, fun x hx τ hτ hτb i hi y1 y hy y2 y3 => ?_⟩ (by omega))
      rcases Nat.lt_succ_iff_lt_or_eq.mp hx with u | u
      · exact Nat.le_trans (hW4 y hy) (hV4 x u τ hτ hτb i hi y1 y hy y2 y3)
      · subst u; exact hW5 τ hτ (by omega) i hi y1 y hy y2 y3
    · skip
      rw [nI_ltI (by omega) (by omega)] at b31
      have hk2 : t < b + 1 := by omega
      refine v_aload_n dX4_hopsOn_34 rfl rfl ?_
      refine v_iload_n dX4_hopsOn_35 rfl rfl ?_
      refine v_iload dX4_hopsOn_36 rfl ?_
      refine v_pV mtX4_unseen q2112 q2114 qs105 rfl (by decide) dX4_hopsOn_38 (c_X4_unseen (t := t) hv hLt hP (by omega)) (mK_obj hm) (by decide) ?_
      refine v_istore dX4_hopsOn_41 (by decide) ?_
      refine v_iconst (v := 0) dX4_hopsOn_43 (by decide) ?_
      refine v_istore dX4_hopsOn_44 (by decide) ?_
      refine v_loc2 (by repeat' (first | with_reducible exact lsub_n | with_reducible refine lsub_c ?_ ?_ | with_reducible refine lk_hit ?_ | with_reducible refine lk_miss (by decide) ?_ ?_ | exact rfl)) (v_lp3 (fun (j : Nat) (hC9 : AH) (u9 : Nat → Nat) => 2 * sN - j) (fun (j : Nat) (hC9 : AH) (u9 : Nat → Nat) => j ≤ 2 * sN ∧ hu_ (n + 1) h hC9 ∧ GV_ (fun i τ x => br_ A C nC sN S P i τ x) (2 * sN) sN b n (so_ (fun i τ x => br_ A C nC sN S P i τ x) (2 * sN) sN x0 a b n) hC9 u9 ∧ (∀ y, y < sN + 1 → u9 y ≤ w9 y) ∧ ∀ i, i < j → br_ A C nC sN S P i t s → ∀ y, y < sN + 1 → ¬ s = y → br_ A C nC sN S P i t y → u9 y ≤ t + 1) (fun (j : Nat) (hC9 : AH) (u9 : Nat → Nat) => [(0, .ref 241), (1, .int (nI P)), (2, .int (nI n)), (3, .int (nI b)), (4, .int (nI s)), (5, .int (nI t)), (6, .int (nI (sc_ (fun x => us_ A C nC sN S P x t) (sN + 1)))), (7, .int (nI j))]) (fun (j : Nat) (hC9 : AH) (u9 : Nat → Nat) => hC9) ?_ 0 _ w9 ⟨Nat.zero_le _, hQ1, hW3, fun y _ => Nat.le_refl _, fun i hi => absurd hi (Nat.not_lt_zero i)⟩)
      intro j hC9 u9 hI IH3
      obtain ⟨hJ1, hX1, hU3, hU4, hU5⟩ := hI
      have hLj := hu_LD hX1 hL
      have hm : MI hC9 := hLj.1
      have eS3 : hp_I hC9 241 4 = nI sN := hLj.2.1
      refine v_iload dX4_hopsOn_46 rfl ?_
      refine v_iconst (v := 2) dX4_hopsOn_48 (by decide) ?_
      refine v_aload_n dX4_hopsOn_49 rfl rfl ?_
      refine v_getI fX4_24 dX4_hopsOn_50 (mK_obj hm) ?_
      rw [eS3]
      refine v_imul dX4_hopsOn_53 ?_
      rw [nI_2]
      refine v_icmp_ge (tgt := 156) dX4_hopsOn_54 (by decide) (fun b54 => ?_) (fun b54 => ?_)
      · skip
        rw [nI_leI (by omega) (by omega)] at b54
        have hk3 : 2 * sN = j := by omega
        refine v_iinc dX4_hopsOn_156 rfl (by first | with_reducible exact nI_inc _ | exact rfl) (by decide) ?_
        refine v_goto (tgt := 28) dX4_hopsOn_159 (by decide) ?_
        refine v_loc2 (by repeat' (first | with_reducible exact lsub_n | with_reducible refine lsub_c ?_ ?_ | with_reducible refine lk_hit ?_ | with_reducible refine lk_miss (by decide) ?_ ?_ | exact rfl)) (IH2 (t + 1) _ u9 ⟨⟨by omega, by omega⟩, hX1, hU3, fun y hy => Nat.le_trans (hU4 y hy) (hW4 y hy), fun τ h1 h2 i hi y1 y hy y2 y3 => ?_⟩ (by omega))
        rcases Nat.lt_succ_iff_lt_or_eq.mp h2 with u | u
        · exact Nat.le_trans (hU4 y hy) (hW5 τ h1 u i hi y1 y hy y2 y3)
        · subst u; exact hU5 i (by omega) y1 y hy y2 y3
      · skip
        rw [nI_leI (by omega) (by omega)] at b54
        have hk3 : j < 2 * sN := by omega
        refine v_aload_n dX4_hopsOn_57 rfl rfl ?_
        refine v_iload_n dX4_hopsOn_58 rfl rfl ?_
        refine v_iload dX4_hopsOn_59 rfl ?_
        refine v_iload dX4_hopsOn_61 rfl ?_
        refine v_iload dX4_hopsOn_63 rfl ?_
        refine v_pV mtX4_bridge q2116 q2118 qs106 rfl (by decide) dX4_hopsOn_65 (c_X4_bridge (a := j) (t := t) hv hLj hP (by omega) hk3) (mK_obj hm) (by decide) ?_
        refine v_istore dX4_hopsOn_68 (by decide) ?_
        refine v_iconst (v := 0) dX4_hopsOn_70 (by decide) ?_
        refine v_istore dX4_hopsOn_71 (by decide) ?_
        refine v_loc2 (by repeat' (first | with_reducible exact lsub_n | with_reducible refine lsub_c ?_ ?_ | with_reducible refine lk_hit ?_ | with_reducible refine lk_miss (by decide) ?_ ?_ | exact rfl)) (v_lp3 (fun (y : Nat) (hD9 : AH) (r : Nat → Nat) => sN + 1 - y) (fun (y : Nat) (hD9 : AH) (r : Nat → Nat) => y ≤ sN + 1 ∧ hu_ (n + 1) h hD9 ∧ GV_ (fun i τ x => br_ A C nC sN S P i τ x) (2 * sN) sN b n (so_ (fun i τ x => br_ A C nC sN S P i τ x) (2 * sN) sN x0 a b n) hD9 r ∧ (∀ z, z < sN + 1 → r z ≤ u9 z) ∧ ∀ z, z < y → br_ A C nC sN S P j t s → ¬ s = z → br_ A C nC sN S P j t z → r z ≤ t + 1) (fun (y : Nat) (hD9 : AH) (r : Nat → Nat) => [(0, .ref 241), (1, .int (nI P)), (2, .int (nI n)), (3, .int (nI b)), (4, .int (nI s)), (5, .int (nI t)), (6, .int (nI (sc_ (fun x => us_ A C nC sN S P x t) (sN + 1)))), (7, .int (nI j)), (8, .int (nI (sc_ (fun x => br_ A C nC sN S P j t x) (sN + 1)))), (9, .int (nI y))]) (fun (y : Nat) (hD9 : AH) (r : Nat → Nat) => hD9) ?_ 0 _ u9 ⟨Nat.zero_le _, hX1, hU3, fun y _ => Nat.le_refl _, fun i hi => absurd hi (Nat.not_lt_zero i)⟩)
        intro y hD9 r hI IH4
        obtain ⟨hY1, hR1, hR3, hR4, hR5⟩ := hI
        have hLy := hu_LD hR1 hL
        have hm : MI hD9 := hLy.1
        have eS4 : hp_I hD9 241 4 = nI sN := hLy.2.1
        refine v_iload dX4_hopsOn_73 rfl ?_
        refine v_aload_n dX4_hopsOn_75 rfl rfl ?_
        refine v_getI fX4_24 dX4_hopsOn_76 (mK_obj hm) ?_
        rw [eS4]
        refine v_icmp_gt (tgt := 150) dX4_hopsOn_79 (by decide) (fun b79 => ?_) (fun b79 => ?_)
        · skip
          rw [nI_ltI (by omega) (by omega)] at b79
          have hk4 : sN + 1 = y := by omega
          have hfin : ∀ z, z < sN + 1 → br_ A C nC sN S P j t s → ¬ s = z → br_ A C nC sN S P j t z → r z ≤ t + 1 := fun z hz => hR5 z (by omega)
          refine v_iinc dX4_hopsOn_150 rfl (by first | with_reducible exact nI_inc _ | exact rfl) (by decide) ?_
          refine v_goto (tgt := 46) dX4_hopsOn_153 (by decide) ?_
          refine v_loc2 (by repeat' (first | with_reducible exact lsub_n | with_reducible refine lsub_c ?_ ?_ | with_reducible refine lk_hit ?_ | with_reducible refine lk_miss (by decide) ?_ ?_ | exact rfl)) (IH3 (j + 1) _ r ⟨by omega, hR1, hR3, fun y hy => Nat.le_trans (hR4 y hy) (hU4 y hy), fun i hi y1 z hz y2 y3 => ?_⟩ (by omega))
          rcases Nat.lt_succ_iff_lt_or_eq.mp hi with u | u
          · exact Nat.le_trans (hR4 z hz) (hU5 i u y1 z hz y2 y3)
          · subst u; exact hfin z hz y1 y2 y3
        · skip
          rw [nI_ltI (by omega) (by omega)] at b79
          have hk4 : y < sN + 1 := by omega
          refine v_iload dX4_hopsOn_82 rfl ?_
          refine v_iload dX4_hopsOn_84 rfl ?_
          refine v_pS mtX4_has q1859 q1860 dX4_hopsOn_86 (c_X4_has _ _) (by decide) ?_
          refine v_if_eq (tgt := 150) dX4_hopsOn_89 (by decide) (fun b89 => ?_) (fun b89 => ?_)
          · skip
            rw [b2i_0, has_bit (Nat.lt_trans (sc_10 (by omega)) (by decide)) (by omega), sc_bit] at b89
            have hfin : ∀ z, z < sN + 1 → br_ A C nC sN S P j t s → ¬ s = z → br_ A C nC sN S P j t z → r z ≤ t + 1 := fun z hz y1 => absurd ⟨hk, y1⟩ b89
            refine v_iinc dX4_hopsOn_150 rfl (by first | with_reducible exact nI_inc _ | exact rfl) (by decide) ?_
            refine v_goto (tgt := 46) dX4_hopsOn_153 (by decide) ?_
            refine v_loc2 (by repeat' (first | with_reducible exact lsub_n | with_reducible refine lsub_c ?_ ?_ | with_reducible refine lk_hit ?_ | with_reducible refine lk_miss (by decide) ?_ ?_ | exact rfl)) (IH3 (j + 1) _ r ⟨by omega, hR1, hR3, fun y hy => Nat.le_trans (hR4 y hy) (hU4 y hy), fun i hi y1 z hz y2 y3 => ?_⟩ (by omega))
            rcases Nat.lt_succ_iff_lt_or_eq.mp hi with u | u
            · exact Nat.le_trans (hR4 z hz) (hU5 i u y1 z hz y2 y3)
            · subst u; exact hfin z hz y1 y2 y3
          · skip
            rw [b2i_n0, has_bit (Nat.lt_trans (sc_10 (by omega)) (by decide)) (by omega), sc_bit] at b89
            refine v_iload dX4_hopsOn_92 rfl ?_
            refine v_iload dX4_hopsOn_94 rfl ?_
            refine v_icmp_eq (tgt := 144) dX4_hopsOn_96 (by decide) (fun b96 => ?_) (fun b96 => ?_)
            · skip
              rw [nI_eq (by omega) (by omega)] at b96
              have hnx : ∀ z, z < y + 1 → br_ A C nC sN S P j t s → ¬ s = z → br_ A C nC sN S P j t z → r z ≤ t + 1 := fun z hz => (Nat.lt_succ_iff_lt_or_eq.mp hz).elim (hR5 z) (fun u => by subst u; exact fun _ w9 => absurd b96.symm w9)
              refine v_iinc dX4_hopsOn_144 rfl (by first | with_reducible exact nI_inc _ | exact rfl) (by decide) ?_
              refine v_goto (tgt := 73) dX4_hopsOn_147 (by decide) ?_
              first | refine v_loc2 (by repeat' (first | with_reducible exact lsub_n | with_reducible refine lsub_c ?_ ?_ | with_reducible refine lk_hit ?_ | with_reducible refine lk_miss (by decide) ?_ ?_ | exact rfl)) (IH4 (y + 1) _ r ⟨by omega, hR1, hR3, hR4, hnx⟩ (by omega)) | refine v_loc2 (by repeat' (first | with_reducible exact lsub_n | with_reducible refine lsub_c ?_ ?_ | with_reducible refine lk_hit ?_ | with_reducible refine lk_miss (by decide) ?_ ?_ | exact rfl)) (IH4 (y + 1) _ (fun k => if k = y then t + 1 else r k) ⟨by omega, hu_I hR1 (by omega), GV_u hR3 hk2 hb hk (fun z => b96 z.symm) hT1 hk3 b89.2 b106.2, fun z hz => (by by_cases e : z = y; (subst e; simp only [if_pos]; have := hR4 z hz; omega); (simp only [if_neg e]; exact hR4 z hz)), fun z hz => (by by_cases e : z = y; (subst e; simp only [if_pos]; exact fun _ _ _ => Nat.le_refl _); (simp only [if_neg e]; exact hR5 z (by omega)))⟩ (by omega))
            · skip
              rw [nI_eq (by omega) (by omega)] at b96
              refine v_iload dX4_hopsOn_99 rfl ?_
              refine v_iload dX4_hopsOn_101 rfl ?_
              refine v_pS mtX4_has q1859 q1860 dX4_hopsOn_103 (c_X4_has _ _) (by decide) ?_
              refine v_if_eq (tgt := 144) dX4_hopsOn_106 (by decide) (fun b106 => ?_) (fun b106 => ?_)
              · skip
                rw [b2i_0, has_bit (Nat.lt_trans (sc_10 (by omega)) (by decide)) (by omega), sc_bit] at b106
                have hnx : ∀ z, z < y + 1 → br_ A C nC sN S P j t s → ¬ s = z → br_ A C nC sN S P j t z → r z ≤ t + 1 := fun z hz => (Nat.lt_succ_iff_lt_or_eq.mp hz).elim (hR5 z) (fun u => by subst u; exact fun _ _ w9 => absurd ⟨hk4, w9⟩ b106)
                refine v_iinc dX4_hopsOn_144 rfl (by first | with_reducible exact nI_inc _ | exact rfl) (by decide) ?_
                refine v_goto (tgt := 73) dX4_hopsOn_147 (by decide) ?_
                first | refine v_loc2 (by repeat' (first | with_reducible exact lsub_n | with_reducible refine lsub_c ?_ ?_ | with_reducible refine lk_hit ?_ | with_reducible refine lk_miss (by decide) ?_ ?_ | exact rfl)) (IH4 (y + 1) _ r ⟨by omega, hR1, hR3, hR4, hnx⟩ (by omega)) | refine v_loc2 (by repeat' (first | with_reducible exact lsub_n | with_reducible refine lsub_c ?_ ?_ | with_reducible refine lk_hit ?_ | with_reducible refine lk_miss (by decide) ?_ ?_ | exact rfl)) (IH4 (y + 1) _ (fun k => if k = y then t + 1 else r k) ⟨by omega, hu_I hR1 (by omega), GV_u hR3 hk2 hb hk (fun z => b96 z.symm) hT1 hk3 b89.2 b106.2, fun z hz => (by by_cases e : z = y; (subst e; simp only [if_pos]; have := hR4 z hz; omega); (simp only [if_neg e]; exact hR4 z hz)), fun z hz => (by by_cases e : z = y; (subst e; simp only [if_pos]; exact fun _ _ _ => Nat.le_refl _); (simp only [if_neg e]; exact hR5 z (by omega)))⟩ (by omega))
              · skip
                rw [b2i_n0, has_bit (Nat.lt_trans (sc_10 (by omega)) (by decide)) (by omega), sc_bit] at b106
                obtain ⟨⟨hy1, hy2, hy3⟩, hy4⟩ := hR3 y hk4
                refine v_iload dX4_hopsOn_109 rfl ?_
                refine v_aload_n dX4_hopsOn_111 rfl rfl ?_
                refine v_getR fX4_76 dX4_hopsOn_112 (mK_obj hm) (mR_soonest hm) ?_ fcA_I
                refine v_bipush (v := nI 10) dX4_hopsOn_115 (by decide) ?_
                refine v_iload_n dX4_hopsOn_117 rfl rfl ?_
                refine v_iconst (v := 1) dX4_hopsOn_118 (by decide) ?_
                refine v_iadd dX4_hopsOn_119 ?_
                refine v_imul dX4_hopsOn_120 ?_
                refine v_iload dX4_hopsOn_121 rfl ?_
                refine v_iadd dX4_hopsOn_123 ?_
                refine v_iald dX4_hopsOn_124 (mK_soonest hm) (ix_add (ix_mul rfl (ix_add rfl (ix_lit _))) rfl) (by first | assumption | omega) ?_
                rw [hy1]
                refine v_icmp_ge (tgt := 144) dX4_hopsOn_125 (by decide) (fun b125 => ?_) (fun b125 => ?_)
                · skip
                  rw [nI_ldec (by omega) (by omega)] at b125
                  have hnx : ∀ z, z < y + 1 → br_ A C nC sN S P j t s → ¬ s = z → br_ A C nC sN S P j t z → r z ≤ t + 1 := fun z hz => (Nat.lt_succ_iff_lt_or_eq.mp hz).elim (hR5 z) (fun u => by subst u; exact fun _ _ _ => b125)
                  refine v_iinc dX4_hopsOn_144 rfl (by first | with_reducible exact nI_inc _ | exact rfl) (by decide) ?_
                  refine v_goto (tgt := 73) dX4_hopsOn_147 (by decide) ?_
                  first | refine v_loc2 (by repeat' (first | with_reducible exact lsub_n | with_reducible refine lsub_c ?_ ?_ | with_reducible refine lk_hit ?_ | with_reducible refine lk_miss (by decide) ?_ ?_ | exact rfl)) (IH4 (y + 1) _ r ⟨by omega, hR1, hR3, hR4, hnx⟩ (by omega)) | refine v_loc2 (by repeat' (first | with_reducible exact lsub_n | with_reducible refine lsub_c ?_ ?_ | with_reducible refine lk_hit ?_ | with_reducible refine lk_miss (by decide) ?_ ?_ | exact rfl)) (IH4 (y + 1) _ (fun k => if k = y then t + 1 else r k) ⟨by omega, hu_I hR1 (by omega), GV_u hR3 hk2 hb hk (fun z => b96 z.symm) hT1 hk3 b89.2 b106.2, fun z hz => (by by_cases e : z = y; (subst e; simp only [if_pos]; have := hR4 z hz; omega); (simp only [if_neg e]; exact hR4 z hz)), fun z hz => (by by_cases e : z = y; (subst e; simp only [if_pos]; exact fun _ _ _ => Nat.le_refl _); (simp only [if_neg e]; exact hR5 z (by omega)))⟩ (by omega))
                · skip
                  rw [nI_ldec (by omega) (by omega)] at b125
                  refine v_aload_n dX4_hopsOn_128 rfl rfl ?_
                  refine v_getR fX4_76 dX4_hopsOn_129 (mK_obj hm) (mR_soonest hm) ?_ fcA_I
                  refine v_bipush (v := 10) dX4_hopsOn_132 (by decide) ?_
                  refine v_iload_n dX4_hopsOn_134 rfl rfl ?_
                  refine v_iconst (v := 1) dX4_hopsOn_135 (by decide) ?_
                  refine v_iadd dX4_hopsOn_136 ?_
                  refine v_imul dX4_hopsOn_137 ?_
                  refine v_iload dX4_hopsOn_138 rfl ?_
                  refine v_iadd dX4_hopsOn_140 ?_
                  refine v_iload dX4_hopsOn_141 rfl ?_
                  refine v_iast dX4_hopsOn_143 (mK_soonest hm) (ix_add (ix_mul (ix_lit _) (ix_add rfl (ix_lit _))) rfl) (by first | assumption | omega) ?_
                  refine v_iinc dX4_hopsOn_144 rfl (by first | with_reducible exact nI_inc _ | exact rfl) (by decide) ?_
                  refine v_goto (tgt := 73) dX4_hopsOn_147 (by decide) ?_
                  first | refine v_loc2 (by repeat' (first | with_reducible exact lsub_n | with_reducible refine lsub_c ?_ ?_ | with_reducible refine lk_hit ?_ | with_reducible refine lk_miss (by decide) ?_ ?_ | exact rfl)) (IH4 (y + 1) _ r ⟨by omega, hR1, hR3, hR4, hnx⟩ (by omega)) | refine v_loc2 (by repeat' (first | with_reducible exact lsub_n | with_reducible refine lsub_c ?_ ?_ | with_reducible refine lk_hit ?_ | with_reducible refine lk_miss (by decide) ?_ ?_ | exact rfl)) (IH4 (y + 1) _ (fun k => if k = y then t + 1 else r k) ⟨by omega, hu_I hR1 (by omega), GV_u hR3 hk2 hb hk (fun z => b96 z.symm) hT1 hk3 b89.2 b106.2, fun z hz => (by by_cases e : z = y; (subst e; simp only [if_pos]; have := hR4 z hz; omega); (simp only [if_neg e]; exact hR4 z hz)), fun z hz => (by by_cases e : z = y; (subst e; simp only [if_pos]; exact fun _ _ _ => Nat.le_refl _); (simp only [if_neg e]; exact hR5 z (by omega)))⟩ (by omega))

