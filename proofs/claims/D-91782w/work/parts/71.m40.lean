set_option maxRecDepth 100000
/-- the reader's whole state: token and fault, ways, memory, the ways' beginnings, names -/
abbrev Cfg : Type := (Nat × Nat × Nat) × Nat × Nat × Nat × (Nat → Nat × Nat × Nat) × (Nat → Int64)
noncomputable def tx_ (T : Nat → Nat) (n : Nat) (c : Cfg) : Cfg :=
  cf_ (pi_ T n 8 c.1) (ry_9 T n c.2.1 c.2.2.2.2.2 c.1, c.2.1 + 1, c.2.2.1, c.2.2.2.1, (fun i => if i = c.2.1 then pn_ T n (w3_9 T n c.2.2.2.2.2 c.1 c.2.1) else c.2.2.2.2.1 i), (fun i => if i = c.2.1 then nw_9 T n (w3_9 T n c.2.2.2.2.2 c.1 c.2.1).1 else c.2.2.2.2.2 i))
    (cf_ (pi_ T n 9 c.1) (pd_ T n 14 (pr_9 T n 0 20 (pr_9 T n 0 20 (pn_ T n c.1))), c.2.1, nv_ T n (pn_ T n c.1).1, nv_ T n (pr_9 T n 0 20 (pn_ T n c.1)).1, c.2.2.2.2.1, c.2.2.2.2.2) (pf_ T n 2 c.1, c.2))
def tg_ (T : Nat → Nat) (n : Nat) (c : Cfg) : Prop := c.1.2.1 = 0 ∧ ¬ tk9_ T n c.1.1 = 15
noncomputable def tl_ (T : Nat → Nat) (n : Nat) : Nat → Cfg → Cfg
  | 0, c => c
  | f + 1, c => cf_ (tg_ T n c) (tl_ T n f (tx_ T n c)) c
theorem tl_t {T : Nat → Nat} {n f : Nat} {c : Cfg} (h : tg_ T n c) : tl_ T n (f + 1) c = tl_ T n f (tx_ T n c) := cf_t h
theorem tl_f {T : Nat → Nat} {n : Nat} {c : Cfg} (h : ¬ tg_ T n c) : ∀ f, tl_ T n f c = c
  | 0 => rfl
  | f + 1 => cf_f h
def c0_ (T : Nat → Nat) (n : Nat) : Cfg := ((0, 0, 0), 0, 0, 0, (fun _ => (0, 0, 0)), (fun _ => 0))
noncomputable def ci9_ (T : Nat → Nat) (n : Nat) : Cfg := ((ta_ T n 0, 0, 0), 0, 0, 0, (fun _ => (0, 0, 0)), (fun _ => 0))
/-- what is read, of n bytes -/
noncomputable def fin_ (T : Nat → Nat) (n : Nat) : Cfg := tl_ T n (n + 1) (ci9_ T n)
/-- a state moves on -/
def up9_ (n : Nat) (s t : Nat × Nat × Nat) : Prop := s.1 ≤ n → s.1 ≤ t.1 ∧ t.1 ≤ n
theorem up_tr {n : Nat} {s t u : Nat × Nat × Nat} (a : up9_ n s t) (b : up9_ n t u) : up9_ n s u := fun h => ⟨Nat.le_trans (a h).1 (b (a h).2).1, (b (a h).2).2⟩
theorem up_rf (n : Nat) (s : Nat × Nat × Nat) : up9_ n s s := fun h => ⟨Nat.le_refl _, h⟩
theorem up_cf {n : Nat} {P : Prop} {s t u : Nat × Nat × Nat} (a : up9_ n s t) (b : up9_ n s u) : up9_ n s (cf_ P t u) := by
  by_cases z : P
  · rw [cf_t z]; exact a
  · rw [cf_f z]; exact b
theorem up_n (T : Nat → Nat) (n : Nat) (s : Nat × Nat × Nat) : up9_ n s (pn_ T n s) := fun h => ⟨Nat.le_trans (te_ge h).1 (ta_ge (te_ge h).2).1, (ta_ge (te_ge h).2).2⟩
theorem up_f (T : Nat → Nat) (n f : Nat) (s : Nat × Nat × Nat) : up9_ n s (pf_ T n f s) := up_cf (fun h => ⟨Nat.le_refl _, h⟩) (up_rf n s)
theorem up_d (T : Nat → Nat) (n k : Nat) (s : Nat × Nat × Nat) : up9_ n s (pd_ T n k s) := up_cf (up_n T n s) (up_f T n 2 s)
theorem up_r0 (T : Nat → Nat) (n lo hi : Nat) (s : Nat × Nat × Nat) : up9_ n s (pr_0 T n lo hi s) := up_cf (up_f T n 2 s) (up_cf (up_f T n 3 s) (up_rf n s))
theorem up_r (T : Nat → Nat) (n lo hi : Nat) (s : Nat × Nat × Nat) : up9_ n s (pr_9 T n lo hi s) := up_cf (up_tr (up_r0 T n lo hi s) (up_n T n _)) (up_r0 T n lo hi s)
theorem up_s (T : Nat → Nat) (n : Nat) (s : Nat × Nat × Nat) : up9_ n s (ps_9 T n s) := up_cf (up_n T n s) (up_f T n 2 s)
theorem up_1 (T : Nat → Nat) (n k : Nat) (s : Nat × Nat × Nat) : up9_ n s (p1_ T n k s) := up_cf (up_s T n s) (up_rf n s)
theorem up_29 (T : Nat → Nat) (n k : Nat) (s : Nat × Nat × Nat) : up9_ n s (p2_ T n k s) := up_cf (up_r T n 1 20 s) (up_cf (up_r T n 0 9 s) (up_cf (up_r T n 1 9 s) (up_rf n s)))
theorem up_st (T : Nat → Nat) (n : Nat) (s : Nat × Nat × Nat) : up9_ n s (st_9 T n s) := up_tr (up_tr (up_n T n s) (up_1 T n _ _)) (up_29 T n _ _)
theorem up_wl (T : Nat → Nat) (n : Nat) (b : Nat × Nat × Nat) : ∀ j, up9_ n b (wl_ T n b j)
  | 0 => up_rf n b
  | j + 1 => up_tr (up_wl T n b j) (up_st T n _)
theorem up_we (T : Nat → Nat) (n : Nat) (b : Nat × Nat × Nat) : up9_ n b (we_9 T n b) := up_cf (up_tr (up_wl T n b _) (up_f T n 5 _)) (up_wl T n b _)
theorem te_gt {T : Nat → Nat} {n a : Nat} (h : a < n) : a < te_ T n a := by
  unfold te_
  by_cases z : sm9_ T n a
  · rw [cf_t z, re_t z h]; exact (re_ge (by omega)).1
  · rw [cf_f z]
    by_cases y : dg9_ T n a
    · rw [cf_t y, re_t y h]; exact (re_ge (by omega)).1
    · rw [cf_f y, cf_t h]; omega
theorem pn_gt {T : Nat → Nat} {n : Nat} {s : Nat × Nat × Nat} (h : s.1 < n) : s.1 < (pn_ T n s).1 ∧ (pn_ T n s).1 ≤ n := ⟨Nat.lt_of_lt_of_le (te_gt h) (ta_ge (te_ge (Nat.le_of_lt h)).2).1, (ta_ge (te_ge (Nat.le_of_lt h)).2).2⟩
theorem w3_up {T : Nat → Nat} {n i : Nat} {nm : Nat → Int64} {s : Nat × Nat × Nat} : up9_ n (pn_ T n s) (w3_9 T n nm s i) := by
  have h2 : up9_ n (pn_ T n s) (w2_9 T n s) := up_cf (up_rf n _) (up_f T n 2 _)
  exact up_tr h2 (up_cf (up_f T n 4 _) (up_rf n _))
theorem tk_end {T : Nat → Nat} {n a : Nat} (h : ¬ tk9_ T n a = 15) : a < n := Nat.not_le.mp fun z => h (cf_t z)
def tm_ (n : Nat) (c : Cfg) : Nat := if c.1.2.1 = 0 then n + 1 - c.1.1 else 0
/-- each round brings the reader on -/
theorem tx_dn {T : Nat → Nat} {n : Nat} {c : Cfg} (h : tg_ T n c) : tm_ n (tx_ T n c) < tm_ n c := by
  have ha := tk_end h.2
  have hm : tm_ n c = n + 1 - c.1.1 := if_pos h.1
  have key : (tx_ T n c).1.2.1 = 0 → c.1.1 < (tx_ T n c).1.1 ∧ (tx_ T n c).1.1 ≤ n := by
    intro hz
    have hp := pn_gt (T := T) (s := c.1) ha
    unfold tx_ at hz ⊢
    by_cases k8 : pi_ T n 8 c.1
    · rw [cf_t k8] at hz ⊢
      show c.1.1 < (ry_9 T n c.2.1 c.2.2.2.2.2 c.1).1 ∧ (ry_9 T n c.2.1 c.2.2.2.2.2 c.1).1 ≤ n
      have hz : (ry_9 T n c.2.1 c.2.2.2.2.2 c.1).2.1 = 0 := hz
      unfold ry_9 at hz ⊢
      by_cases e8 : c.2.1 = 8
      · rw [cf_t e8] at hz; exact absurd hz (pf_ne (by decide))
      · rw [cf_f e8] at hz ⊢
        by_cases e3 : ¬ (w3_9 T n c.2.2.2.2.2 c.1 c.2.1).2.1 = 0
        · rw [cf_t e3] at hz; exact absurd hz e3
        · rw [cf_f e3]
          have u := up_tr (up_tr (up_tr (w3_up (T := T) (n := n) (i := c.2.1) (nm := c.2.2.2.2.2) (s := c.1)) (up_n T n _)) (up_we T n _)) (up_d T n 14 _) hp.2
          exact ⟨Nat.lt_of_lt_of_le hp.1 u.1, u.2⟩
    · rw [cf_f k8] at hz ⊢
      by_cases k9 : pi_ T n 9 c.1
      · rw [cf_t k9]
        have u := up_tr (up_tr (up_r T n 0 20 (pn_ T n c.1)) (up_r T n 0 20 _)) (up_d T n 14 _) hp.2
        exact ⟨Nat.lt_of_lt_of_le hp.1 u.1, u.2⟩
      · rw [cf_f k9] at hz; exact absurd hz (pf_ne (by decide))
  rw [hm]
  unfold tm_
  by_cases z : (tx_ T n c).1.2.1 = 0
  · rw [if_pos z]; have := key z; omega
  · rw [if_neg z]; omega
/-- what is read so far, in the heap -/
def RW_ (T : Nat → Nat) (n : Nat) (h : AH) (b : Nat × Nat × Nat) (i : Nat) : Prop := hp_I h 254 (8 + i) = nI (wc_9 T n b) ∧ ∀ q, q < wc_9 T n b → hp_I h 255 (8 * (i + 8) + q) = nI (tk9_ T n (wl_ T n b q).1) ∧ hp_I h 256 (8 * (i + 8) + q) = nI (sd_9 T n (wl_ T n b q)) ∧ hp_I h 257 (8 * (i + 8) + q) = nI (mn_9 T n (wl_ T n b q))
def RX_ (T : Nat → Nat) (n : Nat) (h : AH) (c : Cfg) : Prop := RS_ T n h c.1 ∧ (c.1.2.1 = 0 → hp_I h 241 23 = nI c.2.1 ∧ c.2.1 ≤ 8 ∧ hp_I h 241 24 = nI c.2.2.1 ∧ c.2.2.1 ≤ 20 ∧ hp_I h 241 25 = nI c.2.2.2.1 ∧ c.2.2.2.1 ≤ 20 ∧ ∀ i, i < c.2.1 → hp_L h 258 i = c.2.2.2.2.2 i ∧ RW_ T n h (c.2.2.2.2.1 i) i)
/-- what the reading changes, of what lasts -/
def tb_ (h h' : AH) : Prop := hp_n h' = hp_n h ∧ hp_K h' = hp_K h ∧ hp_R h' = hp_R h ∧ (∀ p, p ≠ 241 → p < 254 ∨ 257 < p → hp_I h' p = hp_I h p) ∧ (∀ p, 255 ≤ p → p ≤ 257 → ∀ q, q < 64 → hp_I h' p q = hp_I h p q) ∧ (∀ q, q < 8 → hp_I h' 254 q = hp_I h 254 q) ∧ (∀ f, (f < 23 ∧ f ≠ 0 ∧ f ≠ 14) ∨ 32 < f → hp_I h' 241 f = hp_I h 241 f) ∧ hp_I h' 241 14 = 0 ∧ hp_I h' 241 0 = 0 ∧ (∀ p, p ≠ 241 → p ≠ 258 → hp_L h' p = hp_L h p)
theorem tb_wf {m : Nat} {h h1 h2 : AH} (a : tb_ h h1) (b : wf_9 m h1 h2) : tb_ h h2 := ⟨b.1.trans a.1, b.2.1.trans a.2.1, b.2.2.1.trans a.2.2.1, fun p h1 h2 => (b.2.2.2.1 p h1 h2).trans (a.2.2.2.1 p h1 h2), fun p h1 h2 q hq => (b.2.2.2.2.1 p h1 h2 q (by omega)).trans (a.2.2.2.2.1 p h1 h2 q hq), fun q hq => (b.2.2.2.2.2.1 q (by omega)).trans (a.2.2.2.2.2.1 q hq), fun f hf => (b.2.2.2.2.2.2.1 f (by omega)).trans (a.2.2.2.2.2.2.1 f hf), (b.2.2.2.2.2.2.1 14 (by omega)).trans a.2.2.2.2.2.2.2.1, (b.2.2.2.2.2.2.1 0 (by omega)).trans a.2.2.2.2.2.2.2.2.1, fun p h1 h2 => (b.2.2.2.2.2.2.2.1 p h1 h2).trans (a.2.2.2.2.2.2.2.2.2 p h1 h2)⟩
theorem tb_rd {h h1 h2 : AH} (a : tb_ h h1) (b : rd_9 h1 h2) : tb_ h h2 := tb_wf (m := 0) a (wf_rd b)
theorem tb_f {h h1 : AH} {f : Nat} {v : Int32} (a : tb_ h h1) (hf : f = 24 ∨ f = 25) : tb_ h (up_I h1 241 f v) := ⟨a.1, a.2.1, a.2.2.1, fun p h1 h2 => by rw [II_n h1]; exact a.2.2.2.1 p h1 h2, fun p h1 h2 q hq => by rw [II_n (by omega)]; exact a.2.2.2.2.1 p h1 h2 q hq, fun q hq => by rw [II_n (by decide)]; exact a.2.2.2.2.2.1 q hq, fun g hg => by rw [hp_I_I, if_neg (by omega)]; exact a.2.2.2.2.2.2.1 g hg, by rw [hp_I_I, if_neg (by omega)]; exact a.2.2.2.2.2.2.2.1, by rw [hp_I_I, if_neg (by omega)]; exact a.2.2.2.2.2.2.2.2.1, a.2.2.2.2.2.2.2.2.2⟩
theorem RW_rd {T : Nat → Nat} {n i : Nat} {h h1 : AH} {b : Nat × Nat × Nat} (a : RW_ T n h b i) (r : rd_9 h h1) : RW_ T n h1 b i := by
  unfold RW_
  rw [r.2.2.2.1 254 (by decide), r.2.2.2.1 255 (by decide), r.2.2.2.1 256 (by decide), r.2.2.2.1 257 (by decide)]
  exact a
theorem wc_le (T : Nat → Nat) (n : Nat) (b : Nat × Nat × Nat) : wc_9 T n b ≤ 8 := (re_ge (Nat.zero_le 8)).2
theorem RW_wf {T : Nat → Nat} {n i m : Nat} {h h1 : AH} {b : Nat × Nat × Nat} (a : RW_ T n h b i) (r : wf_9 m h h1) (hi : i < m) : RW_ T n h1 b i := by
  have hc := wc_le T n b
  refine ⟨by rw [r.2.2.2.2.2.1 _ (by omega)]; exact a.1, fun q hq => ?_⟩
  rw [r.2.2.2.2.1 255 (by decide) (by decide) _ (by omega), r.2.2.2.2.1 256 (by decide) (by decide) _ (by omega), r.2.2.2.2.1 257 (by decide) (by decide) _ (by omega)]
  exact a.2 q hq
/-- the fault is found, the rest stays -/
theorem RX_f {T : Nat → Nat} {n : Nat} {h1 : AH} {c : Cfg} {s : Nat × Nat × Nat} (hs : RS_ T n h1 s) (hz : ¬ s.2.1 = 0) (e : (tx_ T n c).1 = s) : RX_ T n h1 (tx_ T n c) := ⟨by rw [e]; exact hs, fun z => absurd (by rw [e] at z; exact z) hz⟩
