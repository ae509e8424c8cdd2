set_option maxRecDepth 100000
/-- kinds that the class's data have (the run's, the pass's, the reader's own cells have others) -/
def dk_ (t : Nat × Nat) : Prop := t.1 = 2 ∨ (5 ≤ t.1 ∧ t.1 ≤ 25 ∧ ¬ t.1 = 7) ∨ t = (100, 100) ∨ t = (100, 9) ∨ t = (100, 8) ∨ t.1 = 104 ∨ t.1 = 107
/-- what changes is none of the class's data -/
def NJ_ (P : Nat → Prop) (h : AH) : Prop := ∀ q, P q → ¬ dk_ (hp_K h q)
theorem NJ_s {P : Nat → Prop} {h h1 : AH} {q : Nat} (hf : FR_ P h h1) (hk : kd_ok h) (hj : NJ_ P h) {t : Nat × Nat} (hK : hp_K h q = t) (hd : dk_ t) : sm_ h h1 q := hf.2.2 q (kd_in hk hK (by
  unfold dk_ at hd
  intro e
  have e2 : t ≠ (100, 100) ∧ t ≠ (100, 9) ∧ t ≠ (100, 8) := ⟨fun z => by rw [z] at e; exact absurd e (by decide), fun z => by rw [z] at e; exact absurd e (by decide), fun z => by rw [z] at e; exact absurd e (by decide)⟩
  rcases hd with z | z | z | z | z | z | z
  · omega
  · omega
  · exact e2.1 z
  · exact e2.2.1 z
  · exact e2.2.2 z
  · omega
  · omega)).2 (fun z => hj q z (by rw [hK]; exact hd))
theorem AL_J {P : Nat → Prop} {h h1 : AH} {L D c n : Nat} {f : Nat → Nat} (hA : AL_ h L D c n f) (hf : FR_ P h h1) (hk : kd_ok h) (hj : NJ_ P h) : AL_ h1 L D c n f := AL_fr hA hf hk (fun z => hj L z (by rw [hA.1]; exact Or.inr (Or.inl ⟨by decide, by decide, by decide⟩))) (fun z => hj D z (by rw [hA.2.2.2.1]; exact Or.inr (Or.inr (Or.inr (Or.inr (Or.inr (Or.inr rfl)))))))
theorem dk_o {c n : Nat} (h : 5 ≤ c ∧ c ≤ 25 ∧ ¬ c = 7) : dk_ (c, n) := Or.inr (Or.inl h)
theorem LE_s {h h1 : AH} {q k : Nat} {A : Nat → Int32} (s : sm_ h h1 q) (e : LE_ h q A k) : LE_ h1 q A k := by
  obtain ⟨a1, a2, a3, a4⟩ := s
  exact ⟨a1.trans e.1, (a2 0).trans e.2.1, (a2 1).trans e.2.2.1, (a2 2).trans e.2.2.2.1, (a2 3).trans e.2.2.2.2⟩
theorem MO_s {h h1 : AH} {q k : Nat} {A : Nat → Int32} (s : sm_ h h1 q) (e : MO_ h q A k) : MO_ h1 q A k := by
  obtain ⟨a1, a2, a3, a4⟩ := s
  exact ⟨a1.trans e.1, (a2 0).trans e.2.1, (a2 1).trans e.2.2.1, (a2 2).trans e.2.2.2.1, (a2 3).trans e.2.2.2.2.1, (a2 4).trans e.2.2.2.2.2⟩
theorem CL_s {h h1 : AH} {q k : Nat} {C : Nat → Nat → Int32} (s : sm_ h h1 q) (e : CL_ h q C k) : CL_ h1 q C k := by
  obtain ⟨a1, a2, a3, a4⟩ := s
  obtain ⟨⟨e1, e2, e3⟩, e⟩ := e
  refine ⟨⟨(a2 0).trans e1, (a2 1).trans e2, (a2 2).trans e3⟩, ?_⟩
  rcases e with ⟨k1, k2, k3⟩ | ⟨k1, k2, k3⟩ | ⟨k1, k2, k3, k4⟩
  · exact Or.inl ⟨a1.trans k1, k2, (a2 4).trans k3⟩
  · exact Or.inr (Or.inl ⟨a1.trans k1, k2, (a2 4).trans k3⟩)
  · exact Or.inr (Or.inr ⟨a1.trans k1, k2, (a2 4).trans k3, (a2 5).trans k4⟩)
theorem CL_k {h : AH} {q k : Nat} {C : Nat → Nat → Int32} (e : CL_ h q C k) : ∃ c, 22 ≤ c ∧ c ≤ 24 ∧ hp_K h q = (c, 0) := by
  rcases e.2 with ⟨k1, -⟩ | ⟨k1, -⟩ | ⟨k1, -⟩
  · exact ⟨22, by omega, by omega, k1⟩
  · exact ⟨23, by omega, by omega, k1⟩
  · exact ⟨24, by omega, by omega, k1⟩
theorem ST_s {h h1 : AH} {q kd sd mn : Nat} (s : sm_ h h1 q) (e : ST_ h q kd sd mn) : ST_ h1 q kd sd mn := by
  obtain ⟨a1, a2, a3, a4⟩ := s
  refine ⟨e.1, ?_⟩
  rcases e.2 with ⟨e1, k, e2⟩ | ⟨e1, k, e2, e3⟩ | ⟨e1, k, e2⟩ | ⟨e1, k, e2⟩ | ⟨e1, k⟩ | ⟨e1, k, e2⟩ | ⟨e1, k, e2⟩ | ⟨e1, k, e2, e3⟩
  · exact Or.inl ⟨e1, a1.trans k, (a2 0).trans e2⟩
  · exact Or.inr (Or.inl ⟨e1, a1.trans k, (a2 0).trans e2, (a2 1).trans e3⟩)
  · exact Or.inr (Or.inr (Or.inl ⟨e1, a1.trans k, (a2 0).trans e2⟩))
  · exact Or.inr (Or.inr (Or.inr (Or.inl ⟨e1, a1.trans k, (a2 0).trans e2⟩)))
  · exact Or.inr (Or.inr (Or.inr (Or.inr (Or.inl ⟨e1, a1.trans k⟩))))
  · exact Or.inr (Or.inr (Or.inr (Or.inr (Or.inr (Or.inl ⟨e1, a1.trans k, (a2 0).trans e2⟩)))))
  · exact Or.inr (Or.inr (Or.inr (Or.inr (Or.inr (Or.inr (Or.inl ⟨e1, a1.trans k, (a2 0).trans e2⟩))))))
  · exact Or.inr (Or.inr (Or.inr (Or.inr (Or.inr (Or.inr (Or.inr ⟨e1, a1.trans k, (a2 0).trans e2, (a2 1).trans e3⟩))))))
theorem ST_k {h : AH} {q kd sd mn : Nat} (e : ST_ h q kd sd mn) : ∃ c, 10 ≤ c ∧ c ≤ 17 ∧ hp_K h q = (c, 0) := by
  rcases e.2 with ⟨-, k, -⟩ | ⟨-, k, -⟩ | ⟨-, k, -⟩ | ⟨-, k, -⟩ | ⟨-, k⟩ | ⟨-, k, -⟩ | ⟨-, k, -⟩ | ⟨-, k, -⟩ <;> exact ⟨_, by omega, by omega, k⟩
theorem SI_J {P : Nat → Prop} {h h1 : AH} {b : Nat} {A : Nat → Int32} (hs : SI_ h b A) (hf : FR_ P h h1) (hk : kd_ok h) (hj : NJ_ P h) : SI_ h1 b A := by
  have sb := NJ_s hf hk hj (si_K hs) (Or.inl rfl)
  have s1 := NJ_s hf hk hj (si_light hs) (Or.inr (Or.inr (Or.inl rfl)))
  have s2 := NJ_s hf hk hj (si_need hs) (Or.inr (Or.inr (Or.inr (Or.inl rfl))))
  have s3 := NJ_s hf hk hj (si_firm hs) (Or.inr (Or.inr (Or.inr (Or.inl rfl))))
  have s56 := NJ_s hf hk hj (si_spots hs) (Or.inr (Or.inr (Or.inr (Or.inr (Or.inl rfl)))))
  have s4 := NJ_s hf hk hj (si_eyes hs) (Or.inr (Or.inr (Or.inr (Or.inr (Or.inr (Or.inl rfl))))))
  have s14 := NJ_s hf hk hj (si_seems hs) (Or.inr (Or.inr (Or.inr (Or.inr (Or.inr (Or.inl rfl))))))
  have s33 := NJ_s hf hk hj (si_truly hs) (Or.inr (Or.inr (Or.inr (Or.inr (Or.inr (Or.inl rfl))))))
  have se := fun p hp => NJ_s hf hk hj (si_eyesK hs p hp) (Or.inr (Or.inr (Or.inl rfl)))
  have sm := fun p hp => NJ_s hf hk hj (si_seemsK hs p hp) (Or.inr (Or.inr (Or.inl rfl)))
  have st := fun p hp => NJ_s hf hk hj (si_trulyK hs p hp) (Or.inr (Or.inr (Or.inl rfl)))
  obtain ⟨D1, c1, f1, hA1, hE1⟩ := si_leads hs
  obtain ⟨D2, c2, f2, hA2, hE2⟩ := si_moves hs
  exact ⟨sb.1.trans (si_K hs), (sb.2.2.2 0).trans (si_Rlight hs), (sb.2.2.2 1).trans (si_Rneed hs), (sb.2.2.2 2).trans (si_Rfirm hs), (sb.2.2.2 3).trans (si_Reyes hs), (sb.2.2.2 4).trans (si_Rseems hs), (sb.2.2.2 5).trans (si_Rtruly hs), (sb.2.2.2 6).trans (si_Rleads hs), (sb.2.2.2 7).trans (si_Rmoves hs), (sb.2.2.2 8).trans (si_Rspots hs),
    s1.1.trans (si_light hs), s2.1.trans (si_need hs), s3.1.trans (si_firm hs), s56.1.trans (si_spots hs),
    s4.1.trans (si_eyes hs), fun p hp => (s4.2.2.2 p).trans (si_eyesR hs p hp), fun p hp => (se p hp).1.trans (si_eyesK hs p hp),
    s14.1.trans (si_seems hs), fun p hp => (s14.2.2.2 p).trans (si_seemsR hs p hp), fun p hp => (sm p hp).1.trans (si_seemsK hs p hp),
    s33.1.trans (si_truly hs), fun p hp => (s33.2.2.2 p).trans (si_trulyR hs p hp), fun p hp => (st p hp).1.trans (si_trulyK hs p hp),
    fun t ht => (s1.2.1 t).trans (si_Dlight hs t ht), fun t ht => (s2.2.1 t).trans (si_Dneed hs t ht), fun t ht => (s3.2.1 t).trans (si_Dfirm hs t ht),
    fun p hp t ht => ((se p hp).2.1 t).trans (si_Deyes hs p hp t ht), fun p hp t ht => ((sm p hp).2.1 t).trans (si_Dseems hs p hp t ht), fun p hp t ht => ((st p hp).2.1 t).trans (si_Dtruly hs p hp t ht),
    fun k hk9 => (s56.2.1 k).trans (si_Dspots hs k hk9), (sb.2.1 9).trans (si_things hs),
    ⟨D1, c1, f1, AL_J hA1 hf hk hj, fun k hk9 => LE_s (NJ_s hf hk hj (hE1 k hk9).1 (dk_o (by omega))) (hE1 k hk9)⟩,
    ⟨D2, c2, f2, AL_J hA2 hf hk hj, fun k hk9 => MO_s (NJ_s hf hk hj (hE2 k hk9).1 (dk_o (by omega))) (hE2 k hk9)⟩⟩
theorem CS_J {P : Nat → Prop} {h h1 : AH} {nC : Nat} {C : Nat → Nat → Int32} (hs : ∃ D c f, AL_ h 90 D c nC f ∧ ∀ k, k < nC → CL_ h (f k) C k) (hf : FR_ P h h1) (hk : kd_ok h) (hj : NJ_ P h) : ∃ D c f, AL_ h1 90 D c nC f ∧ ∀ k, k < nC → CL_ h1 (f k) C k := by
  obtain ⟨D, c, f, hA, hE⟩ := hs
  refine ⟨D, c, f, AL_J hA hf hk hj, fun k hk9 => ?_⟩
  obtain ⟨c9, q1, q2, q3⟩ := CL_k (hE k hk9)
  exact CL_s (NJ_s hf hk hj q3 (dk_o (by omega))) (hE k hk9)
/-- only the run's ints from field a on differ -/
def R9_ (a : Nat) (h h1 : AH) : Prop := hp_n h1 = hp_n h ∧ hp_K h1 = hp_K h ∧ hp_R h1 = hp_R h ∧ hp_L h1 = hp_L h ∧ ∀ q k, ¬ (q = 94 ∧ a ≤ k) → hp_I h1 q k = hp_I h q k
theorem R9_rf {a : Nat} {h : AH} : R9_ a h h := ⟨rfl, rfl, rfl, rfl, fun _ _ _ => rfl⟩
theorem R9_tr {a : Nat} {h h1 h2 : AH} (x : R9_ a h h1) (y : R9_ a h1 h2) : R9_ a h h2 := ⟨y.1.trans x.1, y.2.1.trans x.2.1, y.2.2.1.trans x.2.2.1, y.2.2.2.1.trans x.2.2.2.1, fun q k z => (y.2.2.2.2 q k z).trans (x.2.2.2.2 q k z)⟩
theorem R9_w {a b : Nat} {h h1 : AH} (x : R9_ a h h1) (hb : b ≤ a) : R9_ b h h1 := ⟨x.1, x.2.1, x.2.2.1, x.2.2.2.1, fun q k z => x.2.2.2.2 q k (fun y => z ⟨y.1, Nat.le_trans hb y.2⟩)⟩
theorem R9_I {a k : Nat} {h h1 : AH} {v : Int32} (x : R9_ a h h1) (hk : a ≤ k) : R9_ a h (up_I h1 94 k v) := ⟨x.1, x.2.1, x.2.2.1, x.2.2.2.1, fun q j z => (if_neg (fun y => z ⟨y.1, by rw [y.2]; exact hk⟩)).trans (x.2.2.2.2 q j z)⟩
theorem R9_94 {h h1 : AH} (x : R94 h h1) : R9_ 3 h h1 := ⟨x.1, x.2.1, x.2.2.1, x.2.2.2.1, fun q k z => x.2.2.2.2 q k (fun y => z ⟨y.1, by omega⟩)⟩
theorem R9_FR {a : Nat} {h h1 : AH} (x : R9_ a h h1) : FR_ (fun q => q = 94) h h1 := ⟨Nat.le_of_eq x.1.symm, fun q _ => by rw [x.2.1], fun q _ z => ⟨by rw [x.2.1], fun k => x.2.2.2.2 q k (fun y => z y.1), fun k => by rw [x.2.2.2.1], fun k => by rw [x.2.2.1]⟩⟩
theorem kd_eq {h h1 : AH} (hk : kd_ok h) (e1 : hp_n h1 = hp_n h) (e2 : hp_K h1 = hp_K h) (e3 : hp_R h1 = hp_R h) : kd_ok h1 := by
  unfold kd_ok; rw [e1, e2, e3]; exact hk
theorem R9_kd {a : Nat} {h h1 : AH} (x : R9_ a h h1) (hk : kd_ok h) : kd_ok h1 := kd_eq hk x.1 x.2.1 x.2.2.1
theorem NJ_94 {h : AH} (hK : hp_K h 94 = (3, 0)) : NJ_ (fun q => q = 94) h := fun q z hd => by
  rw [z, hK] at hd
  unfold dk_ at hd
  rcases hd with z | z | z | z | z | z | z
  · exact absurd z (by decide)
  · exact absurd z (by decide)
  · exact absurd z (by decide)
  · exact absurd z (by decide)
  · exact absurd z (by decide)
  · exact absurd z (by decide)
  · exact absurd z (by decide)
theorem XC_eq {h h1 : AH} (x : XC_ h) (e2 : hp_K h1 = hp_K h) (e3 : hp_R h1 = hp_R h) : XC_ h1 := by
  unfold XC_; rw [e2, e3]; exact x
theorem XQ_R9 {a : Nat} {h h1 : AH} {b nC sN : Nat} {A : Nat → Int32} {C : Nat → Nat → Int32} {S : Int32} (hq : XQ_ h b A C nC sN S) (x : R9_ a h h1) (hk : kd_ok h) : XQ_ h1 b A C nC sN S := by
  obtain ⟨⟨o1, o2, o3, o4, o5⟩, q2, q3, q4, q5⟩ := hq
  have hj := NJ_94 (xc_run o5)
  refine ⟨⟨by rw [x.2.1]; exact o1, (x.2.2.2.2 30 1 (by omega)).trans o2, by rw [x.2.2.1]; exact o3, (x.2.2.2.2 30 5 (by omega)).trans o4, XC_eq o5 x.2.1 x.2.2.1⟩, SI_J q2 (R9_FR x) hk hj, CS_J q3 (R9_FR x) hk hj, q4, q5⟩
/-- a way in the heap -/
def WE_ (h : AH) (q : Nat) (K Z M : Nat → Int32) (w k : Nat) : Prop := (hp_K h q = (8, 0) ∧ hp_I h q 2 = nI (tn_ K M w k)) ∧ wk_ K Z M w k ∧ (∀ n, n < k → (kd_ K w n = 1 ∨ kd_ K w n = 2) → 1 ≤ kd_ M w n) ∧ ∃ L D c g, hp_R h q 1 = some L ∧ AL_ h L D c k g ∧ ∀ n, n < k → ST_ h (g n) (kd_ K w n) (kd_ Z w n) (kd_ M w n)
def WS_ (h : AH) (N K Z M : Nat → Int32) (nW : Nat) : Prop := nW ≤ 8 ∧ (∀ w, w < nW → N w = nI (N w).toNatClampNeg) ∧ ∃ L D c f, hp_R h 30 6 = some L ∧ AL_ h L D c nW f ∧ ∀ w, w < nW → WE_ h (f w) K Z M w (N w).toNatClampNeg
theorem WE_J {P : Nat → Prop} {h h1 : AH} {q w k : Nat} {K Z M : Nat → Int32} (hs : WE_ h q K Z M w k) (hf : FR_ P h h1) (hk : kd_ok h) (hj : NJ_ P h) : WE_ h1 q K Z M w k := by
  obtain ⟨⟨e1, e2⟩, e3, e4, L, D, c, g, e5, e6, e7⟩ := hs
  have s := NJ_s hf hk hj e1 (dk_o (by omega))
  refine ⟨⟨s.1.trans e1, (s.2.1 2).trans e2⟩, e3, e4, L, D, c, g, (s.2.2.2 1).trans e5, AL_J e6 hf hk hj, fun n hn => ?_⟩
  obtain ⟨c9, q1, q2, q3⟩ := ST_k (e7 n hn)
  exact ST_s (NJ_s hf hk hj q3 (dk_o (by omega))) (e7 n hn)
theorem WS_J {P : Nat → Prop} {h h1 : AH} {N K Z M : Nat → Int32} {nW : Nat} (hs : WS_ h N K Z M nW) (hf : FR_ P h h1) (hk : kd_ok h) (hj : NJ_ P h) (h6 : hp_R h1 30 6 = hp_R h 30 6) : WS_ h1 N K Z M nW := by
  obtain ⟨e1, e0, L, D, c, f, e2, e3, e4⟩ := hs
  exact ⟨e1, e0, L, D, c, f, h6.trans e2, AL_J e3 hf hk hj, fun w hw => WE_J (e4 w hw) hf hk hj⟩
theorem WS_R9 {a : Nat} {h h1 : AH} {N K Z M : Nat → Int32} {nW : Nat} (hs : WS_ h N K Z M nW) (x : R9_ a h h1) (hk : kd_ok h) (hK : hp_K h 94 = (3, 0)) : WS_ h1 N K Z M nW := WS_J hs (R9_FR x) hk (NJ_94 hK) (by rw [x.2.2.1])
theorem WE_R9 {a : Nat} {h h1 : AH} {q w k : Nat} {K Z M : Nat → Int32} (hs : WE_ h q K Z M w k) (x : R9_ a h h1) (hk : kd_ok h) (hK : hp_K h 94 = (3, 0)) : WE_ h1 q K Z M w k := WE_J hs (R9_FR x) hk (NJ_94 hK)
theorem go_okn {A : Nat → Int32} {C : Nat → Nat → Int32} {nC sN w m p x0 g s e n : Nat} {S : Int32} {K Z M : Nat → Int32} : go_ A C nC sN S m p x0 g s e (rsw_ K Z w n) (rcl_ K M w n) (kd_ K w n) (kd_ Z w n) (kd_ M w n) (s + tn_ K M w n) ↔ okn_ A C nC sN S K Z M w m p x0 g s e n := Iff.rfl
theorem okn_t {A : Nat → Int32} {C : Nat → Nat → Int32} {nC sN w m p x0 g s e n : Nat} {S : Int32} {K Z M : Nat → Int32} (h : 100 ≤ s + tn_ K M w n) (h1 : ¬ kd_ K w n = 1) (h2 : ¬ kd_ K w n = 2) (h6 : ¬ kd_ K w n = 6) (h7 : ¬ kd_ K w n = 7) : ¬ okn_ A C nC sN S K Z M w m p x0 g s e n := fun z => by
  rcases z with z | z | ⟨-, z⟩
  · exact h1 z.1
  · exact h2 z
  · rcases z with z | z | z
    · exact h6 z
    · exact h7 z.1
    · omega
theorem ls_mx (K M : Nat → Int32) (w k s : Nat) : s + max 1 (tn_ K M w k) - 1 = ls_e K M w k s := by
  unfold ls_e; split <;> omega
set_option maxHeartbeats 2000000 in
theorem c_X0_runs {G : Gv} {h : AH} {b nC sN : Nat} {A : Nat → Int32} {C : Nat → Nat → Int32} {S : Int32} (hq : XQ_ h b A C nC sN S) {K Z M : Nat → Int32} {q w k : Nat} (hWE : WE_ h q K Z M w k) {p f th g s : Nat} (hp : p < sN) (hf : f < 512) (hth : th < nLaid A) (hg : g ≤ sN) (hs : s < 100) (h0 : hp_I h 94 0 = nI p) (h1 : hp_I h 94 1 = nI f) (h2 : hp_I h 94 2 = nI th) : Ctr G 14 yX0_runs cX0_runs 7 (some .boolean) [.ref 30, .ref q, .int (nI g), .int (nI s)] h 0 0 (fun r h1 => r = some (.int (b2c (run_ A C nC sN S K Z M w k (2 ^ p ||| f) p (wh_ A th (nI s) (nMov A)).toNatClampNeg g s 99))) ∧ R9_ 3 h h1) := by
  refine ctr_of (own := RX0) (nm := "runs") (by decide) (Nat.le_of_ble_eq_true rfl) ?_
  refine v_kd fun hkd => ?_
  have hq9 := hq
  obtain ⟨hX, hS, ⟨DC, cC, fC, hCA, hCE⟩, hv, hc⟩ := hq9
  have h39 := sv_s hv
  have h8 := hc.1
  obtain ⟨x0, hx0, ex⟩ : in_ (wh_ A th (nI s) (nMov A)) (sN + 1) := wh_in hv hth _ (Nat.le_refl _)
  have hlaid := (sv_laid hv).1
  have hWE9 := hWE
  obtain ⟨⟨hW1, hW2⟩, hwk, hw1, LS, DS, cS, gS, hLr, hLA9, hLE9⟩ := hWE9
  have hk8 := hwk.1
  have htk := tn_le hwk k (Nat.le_refl _)
  have hWm : ∀ m, m < nMov A → (A (4680 + 5 * m + 3) ≤ nI s - 1 ↔ A (4680 + 5 * m + 3) < nI s) := fun m hm => by
    obtain ⟨j, hj, ej⟩ := (sv_move hv hm).2.2.2.1
    rw [ej]; exact le_pr (by omega) (by omega)
  rw [ex, nI_clamp (by omega)]
  refine v_aload_n dX0_runs_0 rfl rfl ?_
  refine v_getR fX0_57 dX0_runs_1 hX.1 (xc_Rrun hX.2.2.2.2) ?_
  refine v_aload_n dX0_runs_4 rfl rfl ?_
  refine v_getR fX0_32 dX0_runs_5 hX.1 hX.2.2.1 ?_
  refine v_aload_n dX0_runs_8 rfl rfl ?_
  refine v_getR fX0_57 dX0_runs_9 hX.1 (xc_Rrun hX.2.2.2.2) ?_
  refine v_getI fX0_267 dX0_runs_12 (xc_run hX.2.2.2.2) ?_
  rw [h2]
  refine v_iload_n dX0_runs_15 rfl rfl ?_
  refine v_iconst (v := 1) dX0_runs_16 (by decide) ?_
  refine v_isub dX0_runs_17 ?_
  refine v_pV mtX1_where q601 q602 q603 rfl (by decide) dX0_runs_18 (c_X1_where (th := th) (s := nI s - 1) (s1 := nI s) hS hv (by omega) hWm) (si_K hS) (by first | decide | omega) ?_
  rw [ex]
  refine v_putI fX0_270 (.inl rfl) dX0_runs_21 (xc_run hX.2.2.2.2) ?_
  refine v_aload_n dX0_runs_24 rfl rfl ?_
  refine v_getR fX0_57 dX0_runs_25 hX.1 (xc_Rrun hX.2.2.2.2) ?_
  refine v_iload_n dX0_runs_28 rfl rfl ?_
  refine v_putI fX0_271 (.inl rfl) dX0_runs_29 (xc_run hX.2.2.2.2) ?_
  refine v_aload_n dX0_runs_32 rfl rfl ?_
  refine v_getR fX0_57 dX0_runs_33 hX.1 (xc_Rrun hX.2.2.2.2) ?_
  refine v_iload_n dX0_runs_36 rfl rfl ?_
  refine v_putI fX0_272 (.inl rfl) dX0_runs_37 (xc_run hX.2.2.2.2) ?_
  refine v_aload_n dX0_runs_40 rfl rfl ?_
  refine v_getR fX0_57 dX0_runs_41 hX.1 (xc_Rrun hX.2.2.2.2) ?_
  refine v_iconst (v := 0) dX0_runs_44 (by decide) ?_
  refine v_putI fX0_275 (.inl rfl) dX0_runs_45 (xc_run hX.2.2.2.2) ?_
  refine v_aload_n dX0_runs_48 rfl rfl ?_
  refine v_getR fX0_57 dX0_runs_49 hX.1 (xc_Rrun hX.2.2.2.2) ?_
  refine v_iconst (v := 0) dX0_runs_52 (by decide) ?_
  refine v_putI fX0_278 (.inl rfl) dX0_runs_53 (xc_run hX.2.2.2.2) ?_
  refine v_aload_n dX0_runs_56 rfl rfl ?_
  refine v_getR fX0_57 dX0_runs_57 hX.1 (xc_Rrun hX.2.2.2.2) ?_
  refine v_iload_n dX0_runs_60 rfl rfl ?_
  have hq94 : ¬ q = 94 := fun z => by rw [z, xc_run hX.2.2.2.2] at hW1; cases hW1
  have hW9 : hp_I (up_I (up_I (up_I (up_I (up_I h 94 3 (nI x0)) 94 4 (nI g)) 94 5 (nI s)) 94 7 0) 94 8 0) q 2 = nI (tn_ K M w k) := by
    rw [hp_I_I, if_neg (fun z => hq94 z.1), hp_I_I, if_neg (fun z => hq94 z.1), hp_I_I, if_neg (fun z => hq94 z.1), hp_I_I, if_neg (fun z => hq94 z.1), hp_I_I, if_neg (fun z => hq94 z.1)]; exact hW2
  refine v_iconst (v := nI 1) dX0_runs_61 (by decide) ?_
  refine v_aload_n dX0_runs_62 rfl rfl ?_
  refine v_getI fX0_281 dX0_runs_63 hWE.1.1 ?_
  rw [show hp_I (up_I (up_I (up_I (up_I (up_I h 94 3 (nI x0)) 94 4 (nI g)) 94 5 (nI s)) 94 7 0) 94 8 0) q 2 = nI (tn_ K M w k) from hW9]
  refine v_mmax q727 (by first | decide | omega) dX0_runs_66 ?_
  rw [mx_nI (by omega) (by omega)]
  refine v_iadd dX0_runs_69 ?_
  rw [nI_add]
  refine v_iconst (v := 1) dX0_runs_70 (by decide) ?_
  refine v_isub dX0_runs_71 ?_
  rw [show (1 : Int32) = nI 1 from rfl, pk_sub (by omega), ls_mx]
  refine v_putI fX0_286 (.inl rfl) dX0_runs_72 (xc_run hX.2.2.2.2) ?_
  have hR9 : R9_ 3 h (up_I (up_I (up_I (up_I (up_I (up_I h 94 3 (nI x0)) 94 4 (nI g)) 94 5 (nI s)) 94 7 0) 94 8 0) 94 6 (nI (ls_e K M w k s))) := R9_I (R9_I (R9_I (R9_I (R9_I (R9_I R9_rf (by decide)) (by decide)) (by decide)) (by decide)) (by decide)) (by decide)
  have f0 : hp_I (up_I (up_I (up_I (up_I (up_I (up_I h 94 3 (nI x0)) 94 4 (nI g)) 94 5 (nI s)) 94 7 0) 94 8 0) 94 6 (nI (ls_e K M w k s))) 94 0 = nI p := h0
  have f1 : hp_I (up_I (up_I (up_I (up_I (up_I (up_I h 94 3 (nI x0)) 94 4 (nI g)) 94 5 (nI s)) 94 7 0) 94 8 0) 94 6 (nI (ls_e K M w k s))) 94 1 = nI f := h1
  have f3 : hp_I (up_I (up_I (up_I (up_I (up_I (up_I h 94 3 (nI x0)) 94 4 (nI g)) 94 5 (nI s)) 94 7 0) 94 8 0) 94 6 (nI (ls_e K M w k s))) 94 3 = nI x0 := rfl
  have f4 : hp_I (up_I (up_I (up_I (up_I (up_I (up_I h 94 3 (nI x0)) 94 4 (nI g)) 94 5 (nI s)) 94 7 0) 94 8 0) 94 6 (nI (ls_e K M w k s))) 94 4 = nI g := rfl
  have f5 : hp_I (up_I (up_I (up_I (up_I (up_I (up_I h 94 3 (nI x0)) 94 4 (nI g)) 94 5 (nI s)) 94 7 0) 94 8 0) 94 6 (nI (ls_e K M w k s))) 94 5 = nI s := rfl
  have f6 : hp_I (up_I (up_I (up_I (up_I (up_I (up_I h 94 3 (nI x0)) 94 4 (nI g)) 94 5 (nI s)) 94 7 0) 94 8 0) 94 6 (nI (ls_e K M w k s))) 94 6 = nI (ls_e K M w k s) := rfl
  have f7 : hp_I (up_I (up_I (up_I (up_I (up_I (up_I h 94 3 (nI x0)) 94 4 (nI g)) 94 5 (nI s)) 94 7 0) 94 8 0) 94 6 (nI (ls_e K M w k s))) 94 7 = nI 0 := rfl
  have f8 : hp_I (up_I (up_I (up_I (up_I (up_I (up_I h 94 3 (nI x0)) 94 4 (nI g)) 94 5 (nI s)) 94 7 0) 94 8 0) 94 6 (nI (ls_e K M w k s))) 94 8 = nI 0 := rfl
  generalize hgx : (up_I (up_I (up_I (up_I (up_I (up_I h 94 3 (nI x0)) 94 4 (nI g)) 94 5 (nI s)) 94 7 0) 94 8 0) 94 6 (nI (ls_e K M w k s))) = hx at hR9 f0 f1 f3 f4 f5 f6 f7 f8 ⊢
  clear hgx hX hS hCA hCE
  have hk0 := xc_run hq.1.2.2.2.2
  have hqx := XQ_R9 hq hR9 hkd
  have hWx := WE_R9 hWE hR9 hkd hk0
  have hkx := R9_kd hR9 hkd
  clear hLA9 hLE9 hLr
  have hq9 := hqx
  obtain ⟨hX, hS, ⟨DC, cC, fC, hCA, hCE⟩, -, -⟩ := hq9
  have hle9 : (ls_e K M w k s) < 400 := by unfold ls_e; split <;> omega
  refine v_aload_n dX0_runs_75 rfl rfl ?_
  refine v_getR fX0_57 dX0_runs_76 hX.1 (xc_Rrun hX.2.2.2.2) ?_
  refine v_getI fX0_286 dX0_runs_79 (xc_run hX.2.2.2.2) ?_
  rw [f6]
  refine v_bipush (v := 100) dX0_runs_82 (by decide) ?_
  refine v_icmp_ge (tgt := 134) dX0_runs_84 (by decide) (fun b84 => ?_) (fun b84 => ?_)
  · skip
    rw [show (100 : Int32) = nI 100 from rfl, nI_leI (by omega) (by omega)] at b84
    have hz9 : ¬ run_ A C nC sN S K Z M w k (2 ^ p ||| f) p x0 g s 99 := fun z => absurd z.2.2.2.1 (by omega)
    refine v_iconst (v := 0) dX0_runs_134 (by decide) ?_
    exact v_reti dX0_runs_135 rfl ⟨congrArg (fun z => some (Value.int z)) (b2c_f hz9).symm, hR9⟩
  · skip
    rw [show (100 : Int32) = nI 100 from rfl, nI_leI (by omega) (by omega)] at b84
    have hte : s + tn_ K M w k ≤ 100 := by unfold ls_e at b84; split at b84 <;> omega
    refine v_aload_n dX0_runs_87 rfl rfl ?_
    refine v_getR fX0_57 dX0_runs_88 hX.1 (xc_Rrun hX.2.2.2.2) ?_
    refine v_getI fX0_270 dX0_runs_91 (xc_run hX.2.2.2.2) ?_
    rw [f3]
    refine v_iload_n dX0_runs_94 rfl rfl ?_
    refine v_icmp_eq (tgt := 134) dX0_runs_95 (by decide) (fun b95 => ?_) (fun b95 => ?_)
    · skip
      rw [nI_eq (by omega) (by omega)] at b95
      have hz9 : ¬ run_ A C nC sN S K Z M w k (2 ^ p ||| f) p x0 g s 99 := fun z => z.1 b95
      refine v_iconst (v := 0) dX0_runs_134 (by decide) ?_
      exact v_reti dX0_runs_135 rfl ⟨congrArg (fun z => some (Value.int z)) (b2c_f hz9).symm, hR9⟩
    · skip
      rw [nI_eq (by omega) (by omega)] at b95
      refine v_aload_n dX0_runs_98 rfl rfl ?_
      refine v_aload_n dX0_runs_99 rfl rfl ?_
      refine v_getR fX0_57 dX0_runs_100 hX.1 (xc_Rrun hX.2.2.2.2) ?_
      refine v_getI fX0_289 dX0_runs_103 (xc_run hX.2.2.2.2) ?_
      rw [f0]
      refine v_aload_n dX0_runs_106 rfl rfl ?_
      refine v_getR fX0_57 dX0_runs_107 hX.1 (xc_Rrun hX.2.2.2.2) ?_
      refine v_getI fX0_270 dX0_runs_110 (xc_run hX.2.2.2.2) ?_
      rw [f3]
      refine v_pV mtX0_reaches q623 q625 qs10 rfl (by decide) dX0_runs_113 (c_X0_reaches hX ⟨h39.1, h39.2⟩ ?_ ?_) hX.1 (by first | decide | omega) ?_
      · omega
      · omega
      refine v_if_eq (tgt := 134) dX0_runs_116 (by decide) (fun b116 => ?_) (fun b116 => ?_)
      · skip
        rw [b2i_0] at b116
        have hz9 : ¬ run_ A C nC sN S K Z M w k (2 ^ p ||| f) p x0 g s 99 := fun z => b116 z.2.1
        refine v_iconst (v := 0) dX0_runs_134 (by decide) ?_
        exact v_reti dX0_runs_135 rfl ⟨congrArg (fun z => some (Value.int z)) (b2c_f hz9).symm, hR9⟩
      · skip
        rw [b2i_n0] at b116
        refine v_aload_n dX0_runs_119 rfl rfl ?_
        refine v_aload_n dX0_runs_120 rfl rfl ?_
        refine v_getR fX0_57 dX0_runs_121 hX.1 (xc_Rrun hX.2.2.2.2) ?_
        refine v_getI fX0_289 dX0_runs_124 (xc_run hX.2.2.2.2) ?_
        rw [f0]
        refine v_iload_n dX0_runs_127 rfl rfl ?_
        refine v_pV mtX0_reaches q623 q625 qs10 rfl (by decide) dX0_runs_128 (c_X0_reaches hX ⟨h39.1, h39.2⟩ ?_ ?_) hX.1 (by first | decide | omega) ?_
        · omega
        · omega
        refine v_if_ne (tgt := 136) dX0_runs_131 (by decide) (fun b131 => ?_) (fun b131 => ?_)
        · skip
          rw [b2i_n0] at b131
          refine v_iload_n dX0_runs_136 rfl rfl ?_
          refine v_istore dX0_runs_137 (by decide) ?_
          refine v_iconst (v := 0) dX0_runs_139 (by decide) ?_
          refine v_istore dX0_runs_140 (by decide) ?_
          refine v_loc2 (by repeat' (first | exact trivial | refine And.intro ?_ ?_ | exact rfl)) (v_lp2 (fun (n : Nat) (hh : AH) => k - n) (fun (n : Nat) (hh : AH) => n ≤ k ∧ R9_ 3 h hh ∧ RN_ hh p f x0 g s (ls_e K M w k s) (rsw_ K Z w n) (rcl_ K M w n) ∧ ∀ i, i < n → okn_ A C nC sN S K Z M w (2 ^ p ||| f) p x0 g s (ls_e K M w k s) i) (fun (n : Nat) (hh : AH) => [(0, .ref 30), (1, .ref q), (2, .int (nI g)), (3, .int (nI s)), (4, .int (nI (s + tn_ K M w n))), (5, .int (nI n))]) (fun (n : Nat) (hh : AH) => hh) ?_ 0 _ ⟨Nat.zero_le _, hR9, ⟨f0, f1, f3, f4, f5, f6, f7, f8⟩, fun i hi => absurd hi (Nat.not_lt_zero i)⟩)
          clear hqx hWx hkx hX hS hCA hCE f0 f1 f3 f4 f5 f6 f7 f8 hR9
          intro n hh ⟨hn, hRh, hr, hok9⟩ IH
          have hqx := XQ_R9 hq hRh hkd
          have hWx := WE_R9 hWE hRh hkd hk0
          have hkx := R9_kd hRh hkd
          have hq9 := hqx
          obtain ⟨hX, hS, ⟨DC, cC, fC, hCA, hCE⟩, -, -⟩ := hq9
          have hWE9 := hWx
          obtain ⟨⟨hW1, hW2⟩, -, -, LS, DS, cS, gS, hLr, hLA9, hLE9⟩ := hWE9
          refine v_iload dX0_runs_142 rfl ?_
          refine v_aload_n dX0_runs_144 rfl rfl ?_
          refine v_getR fX0_292 dX0_runs_145 hW1 hLr ?_
          refine v_pV mtJ2_size q481 q482 q483 rfl (by decide) dX0_runs_148 (c_J2_size hLA9) (hLA9).1 (by first | decide | omega) ?_
          refine v_icmp_ge (tgt := 216) dX0_runs_151 (by decide) (fun b151 => ?_) (fun b151 => ?_)
          · skip
            have hnk : n = k := by have := (nI_leI (by omega) (by omega)).mp b151; omega
            subst hnk
            refine v_iconst (v := 1) dX0_runs_216 (by decide) ?_
            exact v_reti dX0_runs_217 rfl ⟨congrArg (fun z => some (Value.int z)) (b2c_t ⟨b95, b116, b131, by omega, hok9⟩).symm, hRh⟩
          · skip
            have hnk : n < k := Nat.lt_of_not_le (fun z => b151 ((nI_leI (by omega) (by omega)).mpr z))
            have hst := hLE9 n hnk
            have hts := tn_s K M w n
            have hmo := tn_mo K M w (show n + 1 ≤ k from hnk)
            obtain ⟨⟨k1, -⟩, ⟨z1, -⟩, ⟨m1, -⟩⟩ := wk_d hwk hnk
            have hmn := hw1 n hnk
            refine v_aload_n dX0_runs_154 rfl rfl ?_
            refine v_getR fX0_292 dX0_runs_155 hW1 hLr ?_
            refine v_iload dX0_runs_158 rfl ?_
            refine v_pV mtJ2_get q621 q607 q608 rfl (by decide) dX0_runs_160 (c_J2_get hLA9 rfl hnk) (hLA9).1 (by first | decide | omega) ?_
            refine v_castU (st_KO hst) q810 dX0_runs_163 ?_
            refine v_astore dX0_runs_166 (by decide) ?_
            refine v_cut 183 (s + tn_ K M w n < 100 ∨ kd_ K w n = 6 ∨ kd_ K w n = 7) (fun hz183 => ?_) (fun hc183 => ?_)
            · skip
              refine v_aload dX0_runs_183 rfl ?_
              refine v_aload_n dX0_runs_185 rfl rfl ?_
              refine v_aload_n dX0_runs_186 rfl rfl ?_
              refine v_getR fX0_57 dX0_runs_187 hX.1 (xc_Rrun hX.2.2.2.2) ?_
              refine v_iload dX0_runs_190 rfl ?_
              refine v_zU dl_ySt_goes q827 dX0_runs_192 (dp_goes (t := s + tn_ K M w n) hqx hr hp hf hst (rsw_lt hwk n (by omega)) (by have := rcl_lt hwk n (by omega); omega) hz183 (fun z => by rw [if_pos (Or.inl z)] at hts; omega) (by omega) hs) (by decide) (fun r192 h192 q192 z192 => ?_)
              obtain ⟨hR94, rfl, hsc⟩ := q192
              have hRn := R9_tr hRh (R9_94 hR94)
              have hstn := ST_s ((R9_FR (R9_94 hR94)).2.2 (gS n) (by obtain ⟨c9, a1, a2, a3⟩ := ST_k hst; exact (kd_in hkx a3 (by show c9 ≠ 999; omega)).2) (by obtain ⟨c9, a1, a2, a3⟩ := ST_k hst; intro y; rw [y, xc_run hX.2.2.2.2] at a3; cases a3; omega)) hst
              refine v_if_ne (tgt := 200) dX0_runs_195 (by decide) (fun b195 => ?_) (fun b195 => ?_)
              · skip
                have hokn : okn_ A C nC sN S K Z M w (2 ^ p ||| f) p x0 g s (ls_e K M w k s) n := go_okn.mp (b2c_n0.mp b195)
                obtain ⟨hs7, hs8⟩ := hsc (go_okn.mpr hokn)
                have hrn : RN_ h192 p f x0 g s (ls_e K M w k s) (rsw_ K Z w (n + 1)) (rcl_ K M w (n + 1)) := by
                  obtain ⟨r0, r1, r3, r4, r5, r6, r7, r8⟩ := hr
                  have e := fun k (hk : ¬ (k = 7 ∨ k = 8)) => hR94.2.2.2.2 94 k (fun z => hk z.2)
                  exact ⟨(e 0 (by omega)).trans r0, (e 1 (by omega)).trans r1, (e 3 (by omega)).trans r3, (e 4 (by omega)).trans r4, (e 5 (by omega)).trans r5, (e 6 (by omega)).trans r6, hs7, hs8⟩
                refine v_iload dX0_runs_200 rfl ?_
                refine v_aload dX0_runs_202 rfl ?_
                refine v_pU dl_ySt_seconds q913 dX0_runs_204 (dp_seconds hstn) (by omega) ?_
                refine v_iadd dX0_runs_207 ?_
                rw [nI_add, show s + tn_ K M w n + (if kd_ K w n = 1 ∨ kd_ K w n = 2 then kd_ M w n else 0) = s + tn_ K M w (n + 1) by omega]
                refine v_istore dX0_runs_208 (by decide) ?_
                refine v_iinc dX0_runs_210 rfl (by first | with_reducible exact nI_inc _ | exact rfl) (by decide) ?_
                refine v_goto (tgt := 142) dX0_runs_213 (by decide) ?_
                refine v_loc2 (l' := [(0, .ref 30), (1, .ref q), (2, .int (nI g)), (3, .int (nI s)), (4, .int (nI (s + tn_ K M w (n + 1)))), (5, .int (nI (n + 1)))]) (by repeat' (first | exact trivial | refine And.intro ?_ ?_ | exact rfl)) (IH (n + 1) _ ⟨hnk, hRn, hrn, fun i hi => (Nat.lt_succ_iff_lt_or_eq.mp hi).elim (hok9 i) (fun y => by rw [y]; exact hokn)⟩ (by omega))
              · skip
                have hz9 : ¬ run_ A C nC sN S K Z M w k (2 ^ p ||| f) p x0 g s 99 := fun z => b2c_0.mp b195 (go_okn.mpr (z.2.2.2.2 n hnk))
                refine v_iconst (v := 0) dX0_runs_198 (by decide) ?_
                first | exact v_reti dX0_runs_199 rfl ⟨congrArg (fun z => some (Value.int z)) (b2c_f hz9).symm, hRh⟩ | exact v_reti dX0_runs_199 rfl ⟨congrArg (fun z => some (Value.int z)) (b2c_f hz9).symm, hRn⟩
            · skip
              refine v_aload dX0_runs_168 rfl ?_
              refine v_pU dl_ySt_asks q811 dX0_runs_170 (dp_asks hst) (by omega) ?_
              refine v_if_eq (tgt := 183) dX0_runs_173 (by decide) (fun b173 => ?_) (fun b173 => ?_)
              · skip
                have hC183 : s + tn_ K M w n < 100 ∨ kd_ K w n = 6 ∨ kd_ K w n = 7 := by
                  rw [b2i_0] at b173; omega
                exact hc183 hC183
              · skip
                rw [b2i_n0] at b173
                refine v_iload dX0_runs_176 rfl ?_
                refine v_bipush (v := 100) dX0_runs_178 (by decide) ?_
                refine v_icmp_ge (tgt := 198) dX0_runs_180 (by decide) (fun b180 => ?_) (fun b180 => ?_)
                · skip
                  rw [show (100 : Int32) = nI 100 from rfl, nI_leI (by omega) (by omega)] at b180
                  have hz9 : ¬ run_ A C nC sN S K Z M w k (2 ^ p ||| f) p x0 g s 99 := fun z => okn_t b180 (fun y => by rw [if_pos (Or.inl y)] at hts; have := hmn (Or.inl y); omega) (fun y => by rw [if_pos (Or.inr y)] at hts; have := hmn (Or.inr y); omega) b173.1 b173.2 (z.2.2.2.2 n hnk)
                  refine v_iconst (v := 0) dX0_runs_198 (by decide) ?_
                  first | exact v_reti dX0_runs_199 rfl ⟨congrArg (fun z => some (Value.int z)) (b2c_f hz9).symm, hRh⟩ | exact v_reti dX0_runs_199 rfl ⟨congrArg (fun z => some (Value.int z)) (b2c_f hz9).symm, hRn⟩
                · skip
                  rw [show (100 : Int32) = nI 100 from rfl, nI_leI (by omega) (by omega)] at b180
                  have hC183 : s + tn_ K M w n < 100 ∨ kd_ K w n = 6 ∨ kd_ K w n = 7 := Or.inl (by omega)
                  exact hc183 hC183
        · skip
          rw [b2i_0] at b131
          have hz9 : ¬ run_ A C nC sN S K Z M w k (2 ^ p ||| f) p x0 g s 99 := fun z => b131 z.2.2.1
          refine v_iconst (v := 0) dX0_runs_134 (by decide) ?_
          exact v_reti dX0_runs_135 rfl ⟨congrArg (fun z => some (Value.int z)) (b2c_f hz9).symm, hR9⟩

theorem run_e {A : Nat → Int32} {C : Nat → Nat → Int32} {nC sN w k m p x0 g s e : Nat} {S : Int32} {K Z M : Nat → Int32} (h1 : ls_e K M w k s ≤ e) (h2 : e ≤ 99) : run_ A C nC sN S K Z M w k m p x0 g s e ↔ run_ A C nC sN S K Z M w k m p x0 g s 99 := ⟨fun z => ⟨z.1, z.2.1, z.2.2.1, by omega, z.2.2.2.2⟩, fun z => ⟨z.1, z.2.1, z.2.2.1, h1, z.2.2.2.2⟩⟩
theorem ls_mo (K M : Nat → Int32) (w k : Nat) {s j : Nat} (h : s ≤ j) : ls_e K M w k s ≤ ls_e K M w k j := by unfold ls_e; split <;> omega
theorem ft_n {P : Nat → Prop} : ∀ {n s : Nat}, (∀ j, s ≤ j → j < s + n → ¬ P j) → ft_ P s n = -1
  | 0, _, _ => rfl
  | n + 1, s, h => by rw [ft_s, cf_f (h s (Nat.le_refl _) (by omega))]; exact ft_n (fun j a b => h j (by omega) (by omega))
set_option maxHeartbeats 1000000 in
theorem c_X0_fit {G : Gv} {h : AH} {b nC sN : Nat} {A : Nat → Int32} {C : Nat → Nat → Int32} {S : Int32} (hq : XQ_ h b A C nC sN S) {K Z M : Nat → Int32} {q w k : Nat} (hWE : WE_ h q K Z M w k) {p f th g a e : Nat} (hp : p < sN) (hf : f < 512) (hth : th < nLaid A) (hg : g ≤ sN) (hae : a ≤ e) (he : e < 100) : Ctr G 15 yX0_fit cX0_fit 9 (some .int) [.ref 30, .ref q, .int (nI p), .int (nI f), .int (nI th), .int (nI g), .int (nI a), .int (nI e)] h 0 0 (fun r h1 => r = some (.int (ft_ (fun s => run_ A C nC sN S K Z M w k (2 ^ p ||| f) p (wh_ A th (nI s) (nMov A)).toNatClampNeg g s e) a (e + 1 - a))) ∧ R9_ 0 h h1) := by
  refine ctr_of (own := RX0) (nm := "fit") (by decide) (Nat.le_of_ble_eq_true rfl) ?_
  refine v_kd fun hkd => ?_
  have hq9 := hq
  obtain ⟨hX, hS, ⟨DC, cC, fC, hCA, hCE⟩, hv, hc⟩ := hq9
  have h39 := sv_s hv
  have h8 := hc.1
  have hk0 := xc_run hX.2.2.2.2
  have hWE9 := hWE
  obtain ⟨⟨hW1, hW2⟩, hwk, hw1, LS, DS, cS, gS, hLr, hLA9, hLE9⟩ := hWE9
  have hk8 := hwk.1
  have htk := tn_le hwk k (Nat.le_refl _)
  refine v_aload_n dX0_fit_0 rfl rfl ?_
  refine v_getR fX0_57 dX0_fit_1 hX.1 (xc_Rrun hX.2.2.2.2) ?_
  refine v_iload_n dX0_fit_4 rfl rfl ?_
  refine v_putI fX0_289 (.inl rfl) dX0_fit_5 (xc_run hX.2.2.2.2) ?_
  refine v_aload_n dX0_fit_8 rfl rfl ?_
  refine v_getR fX0_57 dX0_fit_9 hX.1 (xc_Rrun hX.2.2.2.2) ?_
  refine v_iload_n dX0_fit_12 rfl rfl ?_
  refine v_putI fX0_307 (.inl rfl) dX0_fit_13 (xc_run hX.2.2.2.2) ?_
  refine v_aload_n dX0_fit_16 rfl rfl ?_
  refine v_getR fX0_57 dX0_fit_17 hX.1 (xc_Rrun hX.2.2.2.2) ?_
  refine v_iload dX0_fit_20 rfl ?_
  refine v_putI fX0_267 (.inl rfl) dX0_fit_22 (xc_run hX.2.2.2.2) ?_
  refine v_iload dX0_fit_25 rfl ?_
  refine v_istore dX0_fit_27 (by decide) ?_
  refine v_loc2 (by repeat' (first | exact trivial | refine And.intro ?_ ?_ | exact rfl)) (v_lp2 (fun (s : Nat) (hh : AH) => e + 1 - s) (fun (s : Nat) (hh : AH) => (a ≤ s ∧ s ≤ e + 1) ∧ R9_ 0 h hh ∧ (hp_I hh 94 0 = nI p ∧ hp_I hh 94 1 = nI f ∧ hp_I hh 94 2 = nI th) ∧ ft_ (fun s => run_ A C nC sN S K Z M w k (2 ^ p ||| f) p (wh_ A th (nI s) (nMov A)).toNatClampNeg g s e) a (e + 1 - a) = ft_ (fun s => run_ A C nC sN S K Z M w k (2 ^ p ||| f) p (wh_ A th (nI s) (nMov A)).toNatClampNeg g s e) s (e + 1 - s)) (fun (s : Nat) (hh : AH) => [(0, .ref 30), (1, .ref q), (2, .int (nI p)), (3, .int (nI f)), (4, .int (nI th)), (5, .int (nI g)), (6, .int (nI a)), (7, .int (nI e)), (8, .int (nI s))]) (fun (s : Nat) (hh : AH) => hh) ?_ a _ ⟨⟨Nat.le_refl _, by omega⟩, R9_I (R9_I (R9_I R9_rf (by decide)) (by decide)) (by decide), ⟨rfl, rfl, rfl⟩, rfl⟩)
  clear hX hS hCA hCE hLr hLA9 hLE9 hW1 hW2
  intro s hh ⟨⟨ha1, ha2⟩, hRh, ⟨f0, f1, f2⟩, hft⟩ IH
  have hqx := XQ_R9 hq hRh hkd
  have hWx := WE_R9 hWE hRh hkd hk0
  have hkx := R9_kd hRh hkd
  have hq9 := hqx
  obtain ⟨hX, hS, ⟨DC, cC, fC, hCA, hCE⟩, -, -⟩ := hq9
  have hWE9 := hWx
  obtain ⟨⟨hW1, hW2⟩, -, -, LS, DS, cS, gS, hLr, hLA9, hLE9⟩ := hWE9
  refine v_iload dX0_fit_29 rfl ?_
  refine v_iconst (v := nI 1) dX0_fit_31 (by decide) ?_
  refine v_aload_n dX0_fit_32 rfl rfl ?_
  refine v_getI fX0_281 dX0_fit_33 hW1 ?_
  rw [hW2]
  refine v_mmax q727 (by first | decide | omega) dX0_fit_36 ?_
  rw [mx_nI (by omega) (by omega)]
  refine v_iadd dX0_fit_39 ?_
  rw [nI_add]
  refine v_iconst (v := 1) dX0_fit_40 (by decide) ?_
  refine v_isub dX0_fit_41 ?_
  rw [show (1 : Int32) = nI 1 from rfl, pk_sub (by omega), ls_mx]
  have hle9 : ls_e K M w k s < 400 := by unfold ls_e; split <;> omega
  have hls9 : s ≤ ls_e K M w k s := by unfold ls_e; split <;> omega
  refine v_iload dX0_fit_42 rfl ?_
  refine v_icmp_gt (tgt := 68) dX0_fit_44 (by decide) (fun b44 => ?_) (fun b44 => ?_)
  · skip
    rw [nI_ltI (by omega) (by omega)] at b44
    refine v_iconst (v := (-1)) dX0_fit_68 (by decide) ?_
    exact v_reti dX0_fit_69 rfl ⟨by rw [hft, ft_n (fun j a1 a2 z => by have := z.2.2.2.1; have := ls_mo K M w k (show s ≤ j from a1); omega)], hRh⟩
  · skip
    rw [nI_ltI (by omega) (by omega)] at b44
    refine v_aload_n dX0_fit_47 rfl rfl ?_
    refine v_aload_n dX0_fit_48 rfl rfl ?_
    refine v_iload dX0_fit_49 rfl ?_
    refine v_iload dX0_fit_51 rfl ?_
    refine v_zV mtX0_runs q806 q808 qs25 rfl (by decide) dX0_fit_53 (c_X0_runs (th := th) (s := s) hqx hWx hp hf hth hg (by omega) f0 f1 f2) hX.1 (by first | decide | omega) (fun r53 h53 q53 z53 => ?_)
    obtain ⟨rfl, hR53⟩ := q53
    have hRn := R9_tr hRh (R9_w hR53 (Nat.zero_le _))
    have hf9 : hp_I h53 94 0 = nI p ∧ hp_I h53 94 1 = nI f ∧ hp_I h53 94 2 = nI th := ⟨(hR53.2.2.2.2 94 0 (by omega)).trans f0, (hR53.2.2.2.2 94 1 (by omega)).trans f1, (hR53.2.2.2.2 94 2 (by omega)).trans f2⟩
    have hse : s ≤ e := by omega
    have hft2 := hft
    rw [show e + 1 - s = (e + 1 - (s + 1)) + 1 by omega, ft_s] at hft2
    refine v_if_eq (tgt := 62) dX0_fit_56 (by decide) (fun b56 => ?_) (fun b56 => ?_)
    · skip
      have hno := b2c_0.mp b56
      have hft9 := hft2
      rw [cf_f (fun z => hno ((run_e (by omega) (by omega)).mp z))] at hft9
      refine v_iinc dX0_fit_62 rfl (by first | with_reducible exact nI_inc _ | exact rfl) (by decide) ?_
      refine v_goto (tgt := 29) dX0_fit_65 (by decide) ?_
      refine v_loc2 (l' := [(0, .ref 30), (1, .ref q), (2, .int (nI p)), (3, .int (nI f)), (4, .int (nI th)), (5, .int (nI g)), (6, .int (nI a)), (7, .int (nI e)), (8, .int (nI (s + 1)))]) (by repeat' (first | exact trivial | refine And.intro ?_ ?_ | exact rfl)) (IH (s + 1) _ ⟨⟨by omega, by omega⟩, hRn, hf9, hft9⟩ (by omega))
    · skip
      have hyes := b2c_n0.mp b56
      rw [cf_t ((run_e (by omega) (by omega)).mpr hyes)] at hft2
      refine v_iload dX0_fit_59 rfl ?_
      exact v_reti dX0_fit_61 rfl ⟨by rw [hft2], hRn⟩

theorem c_X0_isWay {G : Gv} {h : AH} {b nC sN : Nat} {A : Nat → Int32} {C : Nat → Nat → Int32} (hq : XQ_ h b A C nC sN 0) {N K Z M : Nat → Int32} {nW : Nat} (hWS : WS_ h N K Z M nW) (x : Int32) : Ctr G 2 yX0_isWay cX0_isWay 2 (some .boolean) [.ref 30, .int x] h 0 0 (Pu h (.int (b2i (0 ≤ x ∧ x < nI nW)))) := by
  refine ctr_of (own := RX0) (nm := "isWay") (by decide) (Nat.le_of_ble_eq_true rfl) ?_
  have hq9 := hq
  obtain ⟨hX, hS, ⟨DC, cC, fC, hCA, hCE⟩, hv, hc⟩ := hq9
  have h39 := sv_s hv
  have hWS9 := hWS
  obtain ⟨hW8, hWN, LW, DW, cW, fW, hWR, hWA, hWE9⟩ := hWS9
  refine v_iload_n dX0_isWay_0 rfl rfl ?_
  refine v_i2l dX0_isWay_1 ?_
  refine v_lconst (v := (0 : Int32).toInt64) dX0_isWay_2 (by decide) ?_
  refine v_aload_n dX0_isWay_3 rfl rfl ?_
  refine v_getR fX0_49 dX0_isWay_4 hX.1 hWR ?_
  refine v_pV mtJ2_size q481 q482 q483 rfl (by decide) dX0_isWay_7 (c_J2_size hWA) (hWA).1 (by first | decide | omega) ?_
  refine v_iconst (v := 1) dX0_isWay_10 (by decide) ?_
  refine v_isub dX0_isWay_11 ?_
  refine v_i2l dX0_isWay_12 ?_
  refine v_pS mtX0_in q162 q163 dX0_isWay_13 (c_X0_in _ _ _) (by first | decide | omega) ?_
  exact v_reti dX0_isWay_16 rt_z (Pu_i (b2i_c (in_pred (by omega))))

noncomputable def an_way (N K M : Nat → Int32) (nW : Nat) (x y : Int32) : Int32 := cf_ (0 ≤ x ∧ x < nI nW) (cf_ (y = 0) (N x.toNatClampNeg) (cf_ (y = 1) (tk_ K M x.toNatClampNeg (N x.toNatClampNeg).toNatClampNeg) (-1))) (-1)
theorem c_X0_way {G : Gv} {h : AH} {b nC sN : Nat} {A : Nat → Int32} {C : Nat → Nat → Int32} (hq : XQ_ h b A C nC sN 0) {N K Z M : Nat → Int32} {nW : Nat} (hWS : WS_ h N K Z M nW) (x y : Int32) : Ctr G 4 yX0_way cX0_way 3 (some .int) [.ref 30, .int x, .int y] h 0 0 (Pu h (.int (an_way N K M nW x y))) := by
  refine ctr_of (own := RX0) (nm := "way") (by decide) (Nat.le_of_ble_eq_true rfl) ?_
  have hq9 := hq
  obtain ⟨hX, hS, ⟨DC, cC, fC, hCA, hCE⟩, hv, hc⟩ := hq9
  have h39 := sv_s hv
  have hWS9 := hWS
  obtain ⟨hW8, hWN, LW, DW, cW, fW, hWR, hWA, hWE9⟩ := hWS9
  refine v_aload_n dX0_way_0 rfl rfl ?_
  refine v_iload_n dX0_way_1 rfl rfl ?_
  refine v_pV mtX0_isWay q785 q787 qs21 rfl (by decide) dX0_way_2 (c_X0_isWay hq hWS _) hX.1 (by first | decide | omega) ?_
  refine v_if_ne (tgt := 12) dX0_way_5 (by decide) (fun b5 => ?_) (fun b5 => ?_)
  · skip
    simp only [b2i_0, b2i_n0, b2c_0, b2c_n0, Classical.not_not] at b5
    have hx9 := b5
    obtain ⟨wn, hwn, rfl⟩ := nI_rng hx9 (by omega)
    have hWE := hWE9 wn hwn
    obtain ⟨⟨hW1, hW2⟩, hwk, hw1, LS, DS, cS, gS, hLr, hLA9, hLE9⟩ := hWE
    refine v_iload_n dX0_way_12 rfl rfl ?_
    refine v_if_ne (tgt := 36) dX0_way_13 (by decide) (fun b13 => ?_) (fun b13 => ?_)
    · skip
      refine v_iload_n dX0_way_36 rfl rfl ?_
      refine v_iconst (v := 1) dX0_way_37 (by decide) ?_
      refine v_icmp_ne (tgt := 58) dX0_way_38 (by decide) (fun b38 => ?_) (fun b38 => ?_)
      · skip
        refine v_iconst (v := (-1)) dX0_way_58 (by decide) ?_
        refine v_reti dX0_way_59 rfl (Pu_i ?_)
        unfold an_way
        first | (rw [cf_t b5, cf_t b13, nI_clamp (by omega)]; exact (hWN wn hwn).symm) | (rw [cf_t b5, cf_f b13, cf_t b38, nI_clamp (by omega), hW2]; exact (tk_tn hwk _ (Nat.le_refl _)).symm) | (rw [cf_t b5, cf_f b13, cf_f b38]) | (rw [cf_f b5])
      · skip
        refine v_aload_n dX0_way_41 rfl rfl ?_
        refine v_getR fX0_49 dX0_way_42 hX.1 hWR ?_
        refine v_iload_n dX0_way_45 rfl rfl ?_
        refine v_pV mtJ2_get q621 q607 q608 rfl (by decide) dX0_way_46 (c_J2_get hWA rfl hwn) (hWA).1 (by first | decide | omega) ?_
        refine v_castS (hWE9 _ hwn).1.1 (by decide) rfl q789 dX0_way_49 ?_
        refine v_getI fX0_281 dX0_way_52 (hWE9 _ hwn).1.1 ?_
        refine v_goto (tgt := 59) dX0_way_55 (by decide) ?_
        refine v_reti dX0_way_59 rfl (Pu_i ?_)
        unfold an_way
        first | (rw [cf_t b5, cf_t b13, nI_clamp (by omega)]; exact (hWN wn hwn).symm) | (rw [cf_t b5, cf_f b13, cf_t b38, nI_clamp (by omega), hW2]; exact (tk_tn hwk _ (Nat.le_refl _)).symm) | (rw [cf_t b5, cf_f b13, cf_f b38]) | (rw [cf_f b5])
    · skip
      refine v_aload_n dX0_way_16 rfl rfl ?_
      refine v_getR fX0_49 dX0_way_17 hX.1 hWR ?_
      refine v_iload_n dX0_way_20 rfl rfl ?_
      refine v_pV mtJ2_get q621 q607 q608 rfl (by decide) dX0_way_21 (c_J2_get hWA rfl hwn) (hWA).1 (by first | decide | omega) ?_
      refine v_castS (hWE9 _ hwn).1.1 (by decide) rfl q789 dX0_way_24 ?_
      refine v_getR fX0_292 dX0_way_27 (hWE9 _ hwn).1.1 hLr ?_
      refine v_pV mtJ2_size q481 q482 q483 rfl (by decide) dX0_way_30 (c_J2_size hLA9) (hLA9).1 (by first | decide | omega) ?_
      refine v_goto (tgt := 59) dX0_way_33 (by decide) ?_
      refine v_reti dX0_way_59 rfl (Pu_i ?_)
      unfold an_way
      first | (rw [cf_t b5, cf_t b13, nI_clamp (by omega)]; exact (hWN wn hwn).symm) | (rw [cf_t b5, cf_f b13, cf_t b38, nI_clamp (by omega), hW2]; exact (tk_tn hwk _ (Nat.le_refl _)).symm) | (rw [cf_t b5, cf_f b13, cf_f b38]) | (rw [cf_f b5])
  · skip
    simp only [b2i_0, b2i_n0, b2c_0, b2c_n0, Classical.not_not] at b5
    refine v_iconst (v := (-1)) dX0_way_8 (by decide) ?_
    refine v_goto (tgt := 59) dX0_way_9 (by decide) ?_
    refine v_reti dX0_way_59 rfl (Pu_i ?_)
    unfold an_way
    first | (rw [cf_t b5, cf_t b13, nI_clamp (by omega)]; exact (hWN wn hwn).symm) | (rw [cf_t b5, cf_f b13, cf_t b38, nI_clamp (by omega), hW2]; exact (tk_tn hwk _ (Nat.le_refl _)).symm) | (rw [cf_t b5, cf_f b13, cf_f b38]) | (rw [cf_f b5])

def tka_ (A : Nat → Int32) (sN : Nat) (th g a e : Int32) : Prop := (0 ≤ th ∧ th < A 4881) ∧ (0 ≤ g ∧ g ≤ nI sN) ∧ (0 ≤ a ∧ a ≤ e ∧ e ≤ 99)
noncomputable def fia_ (A : Nat → Int32) (C : Nat → Nat → Int32) (nC sN : Nat) (S : Int32) (N K Z M : Nat → Int32) (w p f th g s e : Nat) : Int32 := ft_ (fun s => run_ A C nC sN S K Z M w (N w).toNatClampNeg (2 ^ p ||| f) p (wh_ A th (nI s) (nMov A)).toNatClampNeg g s e) s (e + 1 - s)
noncomputable def an_fits (A : Nat → Int32) (C : Nat → Nat → Int32) (nC sN : Nat) (S : Int32) (N K Z M : Nat → Int32) (nW : Nat) (x p f th g a e : Int32) : Int32 := cf_ ((0 ≤ x ∧ x < nI nW) ∧ (0 ≤ p ∧ p < nI sN) ∧ (0 ≤ f ∧ f ≤ nI (2 ^ sN - 1)) ∧ tka_ A sN th g a e) (fia_ A C nC sN S N K Z M x.toNatClampNeg p.toNatClampNeg f.toNatClampNeg th.toNatClampNeg g.toNatClampNeg a.toNatClampNeg e.toNatClampNeg) (-1)
theorem set_r {f : Int32} {n : Nat} (hn : n ≤ 9) : (0 ≤ f ∧ f < nI (2 ^ n)) ↔ (0 ≤ f ∧ f ≤ nI (2 ^ n - 1)) := by
  have h1 : 2 ^ n ≤ 2 ^ 9 := Nat.pow_le_pow_right (by decide) hn
  have h2 : 0 < 2 ^ n := Nat.two_pow_pos n
  constructor
  · intro z
    obtain ⟨k, hk, rfl⟩ := nI_rng z (by omega)
    exact ⟨z.1, (nI_leI (by omega) (by omega)).mpr (by omega)⟩
  · intro z
    obtain ⟨k, hk, rfl⟩ := nI_rngE z (by omega)
    exact ⟨z.1, (nI_ltI (by omega) (by omega)).mpr (by omega)⟩
theorem tka_d {A : Nat → Int32} {sN : Nat} {th g a e : Int32} (hv : sv_ok A sN) (h : tka_ A sN th g a e) : ∃ t1 g1 a1 e1 : Nat, t1 < nLaid A ∧ g1 ≤ sN ∧ a1 ≤ e1 ∧ e1 < 100 ∧ th = nI t1 ∧ g = nI g1 ∧ a = nI a1 ∧ e = nI e1 := by
  obtain ⟨h1, h2, h3⟩ := h
  have h8 := sv_laid hv
  have h9 := (sv_s hv).2
  rw [h8.2] at h1
  obtain ⟨t1, e1, rfl⟩ := nI_rng h1 (by omega)
  obtain ⟨g1, e2, rfl⟩ := nI_rngE h2 (by omega)
  obtain ⟨a1, b1, e3, e4, rfl, rfl⟩ := sec2 h3
  exact ⟨t1, g1, a1, b1, e1, e2, e3, by omega, rfl, rfl, rfl, rfl⟩
set_option maxHeartbeats 1000000 in
theorem c_X0_fits {G : Gv} {h : AH} {b nC sN : Nat} {A : Nat → Int32} {C : Nat → Nat → Int32} (hq : XQ_ h b A C nC sN 0) {N K Z M : Nat → Int32} {nW : Nat} (hWS : WS_ h N K Z M nW) (x p f th g a e : Int32) : Ctr G 16 yX0_fits cX0_fits 8 (some .int) [.ref 30, .int x, .int p, .int f, .int th, .int g, .int a, .int e] h 0 0 (fun r h1 => r = some (.int (an_fits A C nC sN 0 N K Z M nW x p f th g a e)) ∧ R9_ 0 h h1) := by
  refine ctr_of (own := RX0) (nm := "fits") (by decide) (Nat.le_of_ble_eq_true rfl) ?_
  refine v_kd fun hkd => ?_
  have hq9 := hq
  obtain ⟨hX, hS, ⟨DC, cC, fC, hCA, hCE⟩, hv, hc⟩ := hq9
  have h39 := sv_s hv
  have hWS9 := hWS
  obtain ⟨hW8, hWN, LW, DW, cW, fW, hWR, hWA, hWE9⟩ := hWS9
  refine v_aload_n dX0_fits_0 rfl rfl ?_
  refine v_iload_n dX0_fits_1 rfl rfl ?_
  refine v_pV mtX0_isWay q785 q787 qs21 rfl (by decide) dX0_fits_2 (c_X0_isWay hq hWS _) hX.1 (by first | decide | omega) ?_
  refine v_if_eq (tgt := 39) dX0_fits_5 (by decide) (fun b5 => ?_) (fun b5 => ?_)
  · skip
    simp only [b2i_0, b2i_n0, b2c_0, b2c_n0, Classical.not_not] at b5
    refine v_iconst (v := (-1)) dX0_fits_39 (by decide) ?_
    refine v_reti dX0_fits_40 rfl ⟨congrArg (fun z => some (Value.int z)) ?_, R9_rf⟩
    unfold an_fits
    rw [cf_f (fun z => by first | exact b5 z.1 | exact b13 z.2.1 | exact b21 ((set_r h39.2).mpr z.2.2.1) | exact b36 z.2.2.2)]
  · skip
    simp only [b2i_0, b2i_n0, b2c_0, b2c_n0, Classical.not_not] at b5
    refine v_aload_n dX0_fits_8 rfl rfl ?_
    refine v_iload_n dX0_fits_9 rfl rfl ?_
    refine v_pV mtX0_isPerson q450 q452 qs1 rfl (by decide) dX0_fits_10 (c_X0_isPerson hX h39.2 _) hX.1 (by first | decide | omega) ?_
    refine v_if_eq (tgt := 39) dX0_fits_13 (by decide) (fun b13 => ?_) (fun b13 => ?_)
    · skip
      simp only [b2i_0, b2i_n0, b2c_0, b2c_n0, Classical.not_not] at b13
      refine v_iconst (v := (-1)) dX0_fits_39 (by decide) ?_
      refine v_reti dX0_fits_40 rfl ⟨congrArg (fun z => some (Value.int z)) ?_, R9_rf⟩
      unfold an_fits
      rw [cf_f (fun z => by first | exact b5 z.1 | exact b13 z.2.1 | exact b21 ((set_r h39.2).mpr z.2.2.1) | exact b36 z.2.2.2)]
    · skip
      simp only [b2i_0, b2i_n0, b2c_0, b2c_n0, Classical.not_not] at b13
      refine v_aload_n dX0_fits_16 rfl rfl ?_
      refine v_iload_n dX0_fits_17 rfl rfl ?_
      refine v_pV mtX0_isSet q794 q796 qs22 rfl (by decide) dX0_fits_18 (c_X0_isSet hX h39.2 _) hX.1 (by first | decide | omega) ?_
      refine v_if_eq (tgt := 39) dX0_fits_21 (by decide) (fun b21 => ?_) (fun b21 => ?_)
      · skip
        simp only [b2i_0, b2i_n0, b2c_0, b2c_n0, Classical.not_not] at b21
        refine v_iconst (v := (-1)) dX0_fits_39 (by decide) ?_
        refine v_reti dX0_fits_40 rfl ⟨congrArg (fun z => some (Value.int z)) ?_, R9_rf⟩
        unfold an_fits
        rw [cf_f (fun z => by first | exact b5 z.1 | exact b13 z.2.1 | exact b21 ((set_r h39.2).mpr z.2.2.1) | exact b36 z.2.2.2)]
      · skip
        simp only [b2i_0, b2i_n0, b2c_0, b2c_n0, Classical.not_not] at b21
        refine v_aload_n dX0_fits_24 rfl rfl ?_
        refine v_iload dX0_fits_25 rfl ?_
        refine v_iload dX0_fits_27 rfl ?_
        refine v_iload dX0_fits_29 rfl ?_
        refine v_iload dX0_fits_31 rfl ?_
        refine v_pV mtX0_isTask q798 q800 qs23 rfl (by decide) dX0_fits_33 (c_X0_isTask hX hS (sv_laid hv).2 (sv_laid hv).1 _ _ _ _) hX.1 (by first | decide | omega) ?_
        refine v_if_ne (tgt := 41) dX0_fits_36 (by decide) (fun b36 => ?_) (fun b36 => ?_)
        · skip
          simp only [b2i_0, b2i_n0, b2c_0, b2c_n0, Classical.not_not] at b36
          have hf9 := (set_r h39.2).mp b21
          obtain ⟨t1, g1, a1, e1, ht1, hg1, hae, he1, rfl, rfl, rfl, rfl⟩ := tka_d hv (show tka_ A sN th g a e from b36)
          have b5c := b5
          have b13c := b13
          have b21c := b21
          obtain ⟨wn, hwn, rfl⟩ := nI_rng b5c (by omega)
          obtain ⟨pn, hpn, rfl⟩ := nI_rng b13c (by omega)
          have hp2 : 2 ^ sN ≤ 2 ^ 9 := Nat.pow_le_pow_right (by decide) h39.2
          obtain ⟨fn, hfn, rfl⟩ := nI_rng b21c (by omega)
          have hlaid := (sv_laid hv).1
          have hWE := hWE9 wn hwn
          refine v_aload_n dX0_fits_41 rfl rfl ?_
          refine v_aload_n dX0_fits_42 rfl rfl ?_
          refine v_getR fX0_49 dX0_fits_43 hX.1 hWR ?_
          refine v_iload_n dX0_fits_46 rfl rfl ?_
          refine v_pV mtJ2_get q621 q607 q608 rfl (by decide) dX0_fits_47 (c_J2_get hWA rfl hwn) (hWA).1 (by first | decide | omega) ?_
          refine v_castS (hWE9 _ hwn).1.1 (by decide) rfl q789 dX0_fits_50 ?_
          refine v_iload_n dX0_fits_53 rfl rfl ?_
          refine v_iload_n dX0_fits_54 rfl rfl ?_
          refine v_iload dX0_fits_55 rfl ?_
          refine v_iload dX0_fits_57 rfl ?_
          refine v_iload dX0_fits_59 rfl ?_
          refine v_iload dX0_fits_61 rfl ?_
          refine v_zV mtX0_fit q802 q804 qs24 rfl (by decide) dX0_fits_63 (c_X0_fit hq hWE hpn (show fn < 512 by omega) ht1 hg1 hae he1) hX.1 (by first | decide | omega) (fun r63 h63 q63 z63 => ?_)
          obtain ⟨rfl, hR63⟩ := q63
          refine v_reti dX0_fits_66 rfl ⟨congrArg (fun z => some (Value.int z)) ?_, hR63⟩
          unfold an_fits fia_
          rw [cf_t ⟨b5, b13, hf9, b36⟩, nI_clamp (by omega), nI_clamp (by omega), nI_clamp (by omega), nI_clamp (by omega), nI_clamp (by omega), nI_clamp (by omega), nI_clamp (by omega)]
        · skip
          simp only [b2i_0, b2i_n0, b2c_0, b2c_n0, Classical.not_not] at b36
          refine v_iconst (v := (-1)) dX0_fits_39 (by decide) ?_
          refine v_reti dX0_fits_40 rfl ⟨congrArg (fun z => some (Value.int z)) ?_, R9_rf⟩
          unfold an_fits
          rw [cf_f (fun z => by first | exact b5 z.1 | exact b13 z.2.1 | exact b21 ((set_r h39.2).mpr z.2.2.1) | exact b36 z.2.2.2)]

