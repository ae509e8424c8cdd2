set_option maxRecDepth 100000
noncomputable def b2c (P : Prop) : Int32 := @ite _ P (Classical.propDecidable P) 1 0
theorem b2c_t {P : Prop} (h : P) : b2c P = 1 := @if_pos P (Classical.propDecidable P) h _ _ _
theorem b2c_f {P : Prop} (h : ¬ P) : b2c P = 0 := @if_neg P (Classical.propDecidable P) h _ _ _
theorem b2c_01 (P : Prop) : b2c P = 0 ∨ b2c P = 1 := by
  by_cases h : P
  · exact Or.inr (b2c_t h)
  · exact Or.inl (b2c_f h)
theorem b2c_i {P R : Prop} [Decidable P] (h : P ↔ R) : b2i P = b2c R := by
  by_cases z : P
  · rw [b2i_t z, b2c_t (h.mp z)]
  · rw [b2i_f z, b2c_f (fun y => z (h.mpr y))]
theorem b2c_c {P R : Prop} (h : P ↔ R) : b2c P = b2c R := by rw [propext h]
theorem b2c_0 {P : Prop} : b2c P = 0 ↔ ¬ P := by
  by_cases h : P
  · rw [b2c_t h]; exact ⟨fun z => absurd z (by decide), fun z => absurd h z⟩
  · rw [b2c_f h]; exact ⟨fun _ => h, fun _ => rfl⟩
theorem b2c_n0 {P : Prop} : ¬ b2c P = 0 ↔ P := by rw [b2c_0]; exact Classical.not_not
/-- the spec of the eight arrays: light, eyes, watched, vouched, heldBy, ruled, isFree, isTied -/
def wa_ (A : Nat → Int32) (C : Nat → Nat → Int32) (nC sN : Nat) (S : Int32) (s t : Nat) : Nat := sb_ (fun p => eyes_ A C nC S p t = nI s ∧ A (100 + p) ≤ li_ A C S t nC) sN
noncomputable def cv_s (A : Nat → Int32) (C : Nat → Nat → Int32) (nC sN : Nat) (S : Int32) (j s t : Nat) : Int32 := match j with
  | 0 => li_ A C S t nC
  | 1 => nI (sb_ (fun p => eyes_ A C nC S p t = nI s) sN)
  | 2 => nI (wa_ A C nC sN S s t)
  | 3 => nI (hb_ A t s (2 * sN)) ||| (nI (wa_ A C nC sN S (s / 2) t) &&& (((1 : Int32) <<< (nI (s / 2) &&& 31)) ^^^ -1))
  | 4 => nI (hb_ A t s (2 * sN))
  | 5 => nI (sb_ (fun p => ¬ rul_ C S p t nC = -1) sN)
  | 6 => b2c (free_ A C nC sN S s t)
  | _ => b2c (tied_ C nC S s t)
def lm_ (sN j : Nat) : Nat := match j with
  | 0 => 1
  | 1 => sN + 1
  | 2 => sN + 1
  | 5 => 1
  | _ => 2 * sN
/-- only the arrays from 245 to 252 differ -/
def fr_ (h h' : AH) : Prop := hp_n h' = hp_n h ∧ hp_K h' = hp_K h ∧ hp_R h' = hp_R h ∧ hp_L h' = hp_L h ∧ ∀ p, (p < 245 ∨ 252 < p) → hp_I h' p = hp_I h p
def LY_ (h : AH) (nC sN : Nat) (S : Int32) (h' : AH) : Prop := fr_ h h' ∧ ∀ t, t < 100 → ∀ j, j < 8 → ∀ s, s < lm_ sN j → hp_I h' (245 + j) (100 * s + t) = cv_s (hp_I h 243) (ct_ h) nC sN S j s t
def CU_ (h : AH) (nC sN : Nat) (S : Int32) (t : Nat) (h' : AH) (cur : Nat → Nat → Int32) : Prop := fr_ h h' ∧ (∀ t', t' < t → ∀ j, j < 8 → ∀ s, s < lm_ sN j → hp_I h' (245 + j) (100 * s + t') = cv_s (hp_I h 243) (ct_ h) nC sN S j s t') ∧ ∀ j s, j < 8 → hp_I h' (245 + j) (100 * s + t) = cur j s
theorem fr_I {h h' : AH} {j k : Nat} {v : Int32} (hf : fr_ h h') (hj : j < 8) : fr_ h (up_I h' (245 + j) k v) := ⟨hf.1, hf.2.1, hf.2.2.1, hf.2.2.2.1, fun p hp => by rw [II_n (by omega)]; exact hf.2.2.2.2 p hp⟩
theorem CU_up {h h' : AH} {nC sN t j s : Nat} {S v : Int32} {cur : Nat → Nat → Int32} (hc : CU_ h nC sN S t h' cur) (hj : j < 8) (ht : t < 100) : CU_ h nC sN S t (up_I h' (245 + j) (100 * s + t) v) (up_2 cur j s v) := by
  refine ⟨fr_I hc.1 hj, fun t' ht' i hi s' hs' => ?_, fun i s' hi => ?_⟩
  · rw [hp_I_I, if_neg (by omega)]; exact hc.2.1 t' ht' i hi s' hs'
  · rw [hp_I_I]
    by_cases e : i = j ∧ s' = s
    · rw [if_pos (by omega)]; exact (if_pos e).symm
    · rw [if_neg (by omega), hc.2.2 i s' hi]; exact (if_neg e).symm
theorem CU_up0 {h h' : AH} {nC sN t j : Nat} {S v : Int32} {cur : Nat → Nat → Int32} (hc : CU_ h nC sN S t h' cur) (hj : j < 8) (ht : t < 100) : CU_ h nC sN S t (up_I h' (245 + j) t v) (up_2 cur j 0 v) := by
  have := CU_up (s := 0) (v := v) hc hj ht
  rw [show 100 * 0 + t = t by omega] at this
  exact this
theorem CU_r {h h' : AH} {nC sN t : Nat} {S : Int32} {cur : Nat → Nat → Int32} (hc : CU_ h nC sN S t h' cur) (j s : Nat) (hj : j < 8) : hp_I h' (245 + j) (100 * s + t) = cur j s := hc.2.2 j s hj
theorem CU_r0x {h h' : AH} {nC sN t : Nat} {S : Int32} {cur : Nat → Nat → Int32} (hc : CU_ h nC sN S t h' cur) (j : Nat) (hj : j < 8) : hp_I h' (245 + j) t = cur j 0 := by
  have := hc.2.2 j 0 hj
  rw [show 100 * 0 + t = t by omega] at this
  exact this
theorem CU_m {h h' : AH} {nC sN t : Nat} {S : Int32} {cur : Nat → Nat → Int32} (hc : CU_ h nC sN S t h' cur) (hm : MI h) : MI h' := MI_of hm (fun p _ _ => by rw [hc.1.2.1]) (fun k => by rw [hc.1.2.2.1])
theorem CU_p {h h' : AH} {nC sN t : Nat} {S : Int32} {cur : Nat → Nat → Int32} (hc : CU_ h nC sN S t h' cur) (p : Nat) (hp : p < 245 ∨ 252 < p) : hp_I h' p = hp_I h p := hc.1.2.2.2.2 p hp
theorem CU_c {h h' : AH} {nC sN t : Nat} {S : Int32} {cur : Nat → Nat → Int32} (hc : CU_ h nC sN S t h' cur) : ct_ h' = ct_ h := ct_e fun j _ => CU_p hc _ (Or.inr (by omega))
theorem CU_r0 {h h' : AH} {nC sN t : Nat} {S : Int32} {cur : Nat → Nat → Int32} (hc : CU_ h nC sN S t h' cur) : hp_I h' 245 (t) = cur 0 0 := CU_r0x hc 0 (by decide)
theorem CU_w0 {h h' : AH} {nC sN t : Nat} {S v : Int32} {cur : Nat → Nat → Int32} (hc : CU_ h nC sN S t h' cur) (ht : t < 100) : CU_ h nC sN S t (up_I h' 245 (t) v) (up_2 cur 0 0 v) := CU_up0 (j := 0) hc (by decide) ht
theorem CU_r1 {h h' : AH} {nC sN t : Nat} {S : Int32} {cur : Nat → Nat → Int32} (hc : CU_ h nC sN S t h' cur) (s : Nat) : hp_I h' 246 (100 * s + t) = cur 1 s := CU_r hc 1 s (by decide)
theorem CU_w1 {h h' : AH} {nC sN t s : Nat} {S v : Int32} {cur : Nat → Nat → Int32} (hc : CU_ h nC sN S t h' cur) (ht : t < 100) : CU_ h nC sN S t (up_I h' 246 (100 * s + t) v) (up_2 cur 1 s v) := CU_up (j := 1) hc (by decide) ht
theorem CU_r2 {h h' : AH} {nC sN t : Nat} {S : Int32} {cur : Nat → Nat → Int32} (hc : CU_ h nC sN S t h' cur) (s : Nat) : hp_I h' 247 (100 * s + t) = cur 2 s := CU_r hc 2 s (by decide)
theorem CU_w2 {h h' : AH} {nC sN t s : Nat} {S v : Int32} {cur : Nat → Nat → Int32} (hc : CU_ h nC sN S t h' cur) (ht : t < 100) : CU_ h nC sN S t (up_I h' 247 (100 * s + t) v) (up_2 cur 2 s v) := CU_up (j := 2) hc (by decide) ht
theorem CU_r3 {h h' : AH} {nC sN t : Nat} {S : Int32} {cur : Nat → Nat → Int32} (hc : CU_ h nC sN S t h' cur) (s : Nat) : hp_I h' 248 (100 * s + t) = cur 3 s := CU_r hc 3 s (by decide)
theorem CU_w3 {h h' : AH} {nC sN t s : Nat} {S v : Int32} {cur : Nat → Nat → Int32} (hc : CU_ h nC sN S t h' cur) (ht : t < 100) : CU_ h nC sN S t (up_I h' 248 (100 * s + t) v) (up_2 cur 3 s v) := CU_up (j := 3) hc (by decide) ht
theorem CU_r4 {h h' : AH} {nC sN t : Nat} {S : Int32} {cur : Nat → Nat → Int32} (hc : CU_ h nC sN S t h' cur) (s : Nat) : hp_I h' 249 (100 * s + t) = cur 4 s := CU_r hc 4 s (by decide)
theorem CU_w4 {h h' : AH} {nC sN t s : Nat} {S v : Int32} {cur : Nat → Nat → Int32} (hc : CU_ h nC sN S t h' cur) (ht : t < 100) : CU_ h nC sN S t (up_I h' 249 (100 * s + t) v) (up_2 cur 4 s v) := CU_up (j := 4) hc (by decide) ht
theorem CU_r5 {h h' : AH} {nC sN t : Nat} {S : Int32} {cur : Nat → Nat → Int32} (hc : CU_ h nC sN S t h' cur) : hp_I h' 250 (t) = cur 5 0 := CU_r0x hc 5 (by decide)
theorem CU_w5 {h h' : AH} {nC sN t : Nat} {S v : Int32} {cur : Nat → Nat → Int32} (hc : CU_ h nC sN S t h' cur) (ht : t < 100) : CU_ h nC sN S t (up_I h' 250 (t) v) (up_2 cur 5 0 v) := CU_up0 (j := 5) hc (by decide) ht
theorem CU_r6 {h h' : AH} {nC sN t : Nat} {S : Int32} {cur : Nat → Nat → Int32} (hc : CU_ h nC sN S t h' cur) (s : Nat) : hp_I h' 251 (100 * s + t) = cur 6 s := CU_r hc 6 s (by decide)
theorem CU_w6 {h h' : AH} {nC sN t s : Nat} {S v : Int32} {cur : Nat → Nat → Int32} (hc : CU_ h nC sN S t h' cur) (ht : t < 100) : CU_ h nC sN S t (up_I h' 251 (100 * s + t) v) (up_2 cur 6 s v) := CU_up (j := 6) hc (by decide) ht
theorem CU_r7 {h h' : AH} {nC sN t : Nat} {S : Int32} {cur : Nat → Nat → Int32} (hc : CU_ h nC sN S t h' cur) (s : Nat) : hp_I h' 252 (100 * s + t) = cur 7 s := CU_r hc 7 s (by decide)
theorem CU_w7 {h h' : AH} {nC sN t s : Nat} {S v : Int32} {cur : Nat → Nat → Int32} (hc : CU_ h nC sN S t h' cur) (ht : t < 100) : CU_ h nC sN S t (up_I h' 252 (100 * s + t) v) (up_2 cur 7 s v) := CU_up (j := 7) hc (by decide) ht
/-- one person more -/
theorem lc_a {E : Nat → Int32} {L : Nat → Prop} [DecidablePred L] {c1 c2 d1 d2 : Nat → Int32} {sN k : Nat} (h9 : sN ≤ 9) (hF : ∀ s, s ≤ sN → c1 s = nI (sb_ (fun p => E p = nI s) k) ∧ c2 s = nI (sb_ (fun p => E p = nI s ∧ L p) k)) (he : E k = -1) (h1 : ∀ s, d1 s = c1 s) (h2 : ∀ s, d2 s = c2 s) : ∀ s, s ≤ sN → d1 s = nI (sb_ (fun p => E p = nI s) (k + 1)) ∧ d2 s = nI (sb_ (fun p => E p = nI s ∧ L p) (k + 1)) := fun s hs => by
  have n : ¬ E k = nI s := fun z => nI_ne1 (a := s) (by omega) (z.symm.trans he)
  rw [h1, h2, sb_s, sb_s, if_neg n, if_neg (fun z => n z.1)]
  exact hF s hs
theorem lc_b {E : Nat → Int32} {L : Nat → Prop} [DecidablePred L] {c1 c2 d1 d2 : Nat → Int32} {sN k s0 : Nat} (h9 : sN ≤ 9) (hF : ∀ s, s ≤ sN → c1 s = nI (sb_ (fun p => E p = nI s) k) ∧ c2 s = nI (sb_ (fun p => E p = nI s ∧ L p) k)) (hs0 : s0 ≤ sN) (he : E k = nI s0) (hL : ¬ L k) (h1 : ∀ s, d1 s = if s = s0 then nI (sb_ (fun p => E p = nI s0) k ||| 2 ^ k) else c1 s) (h2 : ∀ s, d2 s = c2 s) : ∀ s, s ≤ sN → d1 s = nI (sb_ (fun p => E p = nI s) (k + 1)) ∧ d2 s = nI (sb_ (fun p => E p = nI s ∧ L p) (k + 1)) := fun s hs => by
  rw [h1, h2, sb_s, sb_s, if_neg (c := E k = nI s ∧ L k) (fun z => hL z.2)]
  by_cases e : s = s0
  · subst e
    rw [if_pos rfl, if_pos he]
    exact ⟨rfl, (hF s hs).2⟩
  · rw [if_neg e, if_neg (fun z => e ((nI_eq (by omega) (by omega)).mp (z.symm.trans he)))]
    exact hF s hs
theorem lc_c {E : Nat → Int32} {L : Nat → Prop} [DecidablePred L] {c1 c2 d1 d2 : Nat → Int32} {sN k s0 : Nat} (h9 : sN ≤ 9) (hF : ∀ s, s ≤ sN → c1 s = nI (sb_ (fun p => E p = nI s) k) ∧ c2 s = nI (sb_ (fun p => E p = nI s ∧ L p) k)) (hs0 : s0 ≤ sN) (he : E k = nI s0) (hL : L k) (h1 : ∀ s, d1 s = if s = s0 then nI (sb_ (fun p => E p = nI s0) k ||| 2 ^ k) else c1 s) (h2 : ∀ s, d2 s = if s = s0 then nI (sb_ (fun p => E p = nI s0 ∧ L p) k ||| 2 ^ k) else c2 s) : ∀ s, s ≤ sN → d1 s = nI (sb_ (fun p => E p = nI s) (k + 1)) ∧ d2 s = nI (sb_ (fun p => E p = nI s ∧ L p) (k + 1)) := fun s hs => by
  rw [h1, h2, sb_s, sb_s]
  by_cases e : s = s0
  · subst e
    rw [if_pos rfl, if_pos he, if_pos rfl, if_pos ⟨he, hL⟩]
    exact ⟨rfl, rfl⟩
  · have n : ¬ E k = nI s := fun z => e ((nI_eq (by omega) (by omega)).mp (z.symm.trans he))
    rw [if_neg e, if_neg e, if_neg n, if_neg (fun z => n z.1)]
    exact hF s hs
/-- one hand more -/
theorem le_a {A : Nat → Int32} {c4 c6 d4 d6 : Nat → Int32} {t k n : Nat} (hn : n ≤ 18) (hF : ∀ a, a < n → c4 a = nI (hb_ A t a k) ∧ c6 a = b2c (A (2870 + 100 * a + t) = -1 ∧ ∀ j, j < k → ¬ A (2870 + 100 * j + t) = nI a)) (he : A (2870 + 100 * k + t) = -1) (h1 : ∀ s, d4 s = c4 s) (h2 : ∀ s, d6 s = c6 s) : ∀ a, a < n → d4 a = nI (hb_ A t a (k + 1)) ∧ d6 a = b2c (A (2870 + 100 * a + t) = -1 ∧ ∀ j, j < k + 1 → ¬ A (2870 + 100 * j + t) = nI a) := fun a ha => by
  have ne : ¬ A (2870 + 100 * k + t) = nI a := fun z => nI_ne1 (a := a) (by omega) (z.symm.trans he)
  rw [h1, h2, hb_s, if_neg ne, (hF a ha).1, (hF a ha).2]
  refine ⟨rfl, b2c_c ⟨fun z => ⟨z.1, fun j hj => ?_⟩, fun z => ⟨z.1, fun j hj => z.2 j (by omega)⟩⟩⟩
  by_cases e : j = k
  · subst e; exact ne
  · exact z.2 j (by omega)
theorem le_b {A : Nat → Int32} {c4 c6 d4 d6 : Nat → Int32} {t k n a0 : Nat} (hn : n ≤ 18) (hF : ∀ a, a < n → c4 a = nI (hb_ A t a k) ∧ c6 a = b2c (A (2870 + 100 * a + t) = -1 ∧ ∀ j, j < k → ¬ A (2870 + 100 * j + t) = nI a)) (h0 : a0 < n) (he : A (2870 + 100 * k + t) = nI a0) (h1 : ∀ s, d4 s = if s = a0 then nI (hb_ A t a0 k ||| 2 ^ (k / 2)) else c4 s) (h2 : ∀ s, d6 s = if s = a0 then 0 else c6 s) : ∀ a, a < n → d4 a = nI (hb_ A t a (k + 1)) ∧ d6 a = b2c (A (2870 + 100 * a + t) = -1 ∧ ∀ j, j < k + 1 → ¬ A (2870 + 100 * j + t) = nI a) := fun a ha => by
  rw [h1, h2, hb_s]
  by_cases e : a = a0
  · subst e
    rw [if_pos rfl, if_pos rfl, if_pos he]
    exact ⟨rfl, (b2c_f (fun z => z.2 k (by omega) he)).symm⟩
  · have ne : ¬ A (2870 + 100 * k + t) = nI a := fun z => e ((nI_eq (by omega) (by omega)).mp (z.symm.trans he))
    rw [if_neg e, if_neg e, if_neg ne, (hF a ha).1, (hF a ha).2]
    refine ⟨rfl, b2c_c ⟨fun z => ⟨z.1, fun j hj => ?_⟩, fun z => ⟨z.1, fun j hj => z.2 j (by omega)⟩⟩⟩
    by_cases e2 : j = k
    · subst e2; exact ne
    · exact z.2 j (by omega)
/-- one control more -/
theorem lf_a {B : Nat → Prop} {T : Nat → Nat → Prop} {c6 c7 d6 d7 : Nat → Int32} {k n : Nat} (hF : ∀ a, a < n → c6 a = b2c (B a ∧ ∀ c, c < k → ¬ T c a) ∧ c7 a = b2c (∃ c, c < k ∧ T c a)) (he : ∀ a, a < n → ¬ T k a) (h1 : ∀ s, d6 s = c6 s) (h2 : ∀ s, d7 s = c7 s) : ∀ a, a < n → d6 a = b2c (B a ∧ ∀ c, c < k + 1 → ¬ T c a) ∧ d7 a = b2c (∃ c, c < k + 1 ∧ T c a) := fun a ha => by
  rw [h1, h2, (hF a ha).1, (hF a ha).2]
  refine ⟨b2c_c ⟨fun z => ⟨z.1, fun c hc => ?_⟩, fun z => ⟨z.1, fun c hc => z.2 c (by omega)⟩⟩, b2c_c ⟨fun ⟨c, h3, h4⟩ => ⟨c, by omega, h4⟩, fun ⟨c, h3, h4⟩ => ⟨c, ?_, h4⟩⟩⟩
  · by_cases e : c = k
    · subst e; exact he a ha
    · exact z.2 c (by omega)
  · by_cases e : c = k
    · subst e; exact absurd h4 (he a ha)
    · omega
theorem lf_b {B : Nat → Prop} {T : Nat → Nat → Prop} {c6 c7 d6 d7 : Nat → Int32} {k n a0 : Nat} (hF : ∀ a, a < n → c6 a = b2c (B a ∧ ∀ c, c < k → ¬ T c a) ∧ c7 a = b2c (∃ c, c < k ∧ T c a)) (he : ∀ a, a < n → (T k a ↔ a = a0)) (h1 : ∀ s, d6 s = if s = a0 then 0 else c6 s) (h2 : ∀ s, d7 s = if s = a0 then 1 else c7 s) : ∀ a, a < n → d6 a = b2c (B a ∧ ∀ c, c < k + 1 → ¬ T c a) ∧ d7 a = b2c (∃ c, c < k + 1 ∧ T c a) := fun a ha => by
  rw [h1, h2]
  by_cases e : a = a0
  · rw [if_pos e, if_pos e]
    exact ⟨(b2c_f (fun z => z.2 k (by omega) ((he a ha).mpr e))).symm, (b2c_t ⟨k, by omega, (he a ha).mpr e⟩).symm⟩
  · have ne : ¬ T k a := fun z => e ((he a ha).mp z)
    rw [if_neg e, if_neg e, (hF a ha).1, (hF a ha).2]
    refine ⟨b2c_c ⟨fun z => ⟨z.1, fun c hc => ?_⟩, fun z => ⟨z.1, fun c hc => z.2 c (by omega)⟩⟩, b2c_c ⟨fun ⟨c, h3, h4⟩ => ⟨c, by omega, h4⟩, fun ⟨c, h3, h4⟩ => ⟨c, ?_, h4⟩⟩⟩
    · by_cases e2 : c = k
      · subst e2; exact ne
      · exact z.2 c (by omega)
    · by_cases e2 : c = k
      · subst e2; exact absurd h4 ne
      · omega
theorem u2_s {f : Nat → Nat → Int32} {p k : Nat} {v : Int32} : up_2 f p k v p k = v := if_pos ⟨rfl, rfl⟩
theorem u2_n {f : Nat → Nat → Int32} {p k q j : Nat} {v : Int32} (n : ¬ (q = p ∧ j = k)) : up_2 f p k v q j = f q j := if_neg n
set_option maxHeartbeats 4000000 in
theorem c_X4_lays {G : Gv} {h : AH} (hm0 : MI h) {nC sN : Nat} (hs : hp_I h 241 4 = nI sN) (hv : sv_ok (hp_I h 243) sN) (hC : hp_I h 241 48 = nI nC) (hc : cl_ok (ct_ h) nC sN) (S : Int32) : Ctr G 4 yX4_lays cX4_lays 5 none [.ref 241, .int S] h 0 0 (fun r h1 => r = none ∧ LY_ h nC sN S h1) := by
  refine ctr_of (own := RX4) (nm := "lays") (by decide) (Nat.le_of_ble_eq_true rfl) ?_
  refine v_iconst (v := 0) dX4_lays_0 (by decide) ?_
  refine v_istore_n dX4_lays_1 rfl (by decide) ?_
  refine v_loc2 (by repeat' (first | exact trivial | refine And.intro ?_ ?_ | exact rfl)) (v_lp2 (fun (t : Nat) (hh : AH) => 100 - t) (fun (t : Nat) (hh : AH) => t ≤ 100 ∧ ∃ cur, CU_ h nC sN S t hh cur) (fun (t : Nat) (hh : AH) => [(0, .ref 241), (1, .int S), (2, .int (nI t))]) (fun (t : Nat) (hh : AH) => hh) ?_ 0 _ ⟨by omega, fun j s => hp_I h (245 + j) (100 * s + 0), ⟨rfl, rfl, rfl, rfl, fun _ _ => rfl⟩, fun t' ht' => absurd ht' (Nat.not_lt_zero _), fun _ _ _ => rfl⟩)
  intro t hh hI IHo
  obtain ⟨hI, cur, hcu⟩ := hI
  have hm : MI hh := CU_m hcu hm0
  have h3 := sv_s hv
  have hc8 := hc.1
  have l0 : nI 0 = 0 := rfl
  have l1 : nI 1 = 1 := rfl
  have l2 : nI 2 = 2 := rfl
  refine v_iload_n dX4_lays_2 rfl rfl ?_
  refine v_bipush (v := nI 100) dX4_lays_3 (by decide) ?_
  refine v_icmp_ge (tgt := 577) dX4_lays_5 (by decide) (fun b5 => ?_) (fun b5 => ?_)
  · skip
    rw [nI_leI (by decide) (by omega)] at b5
    have htt : t = 100 := by omega
    subst htt
    exact v_retv dX4_lays_577 trivial ⟨rfl, hcu.1, fun t ht => hcu.2.1 t (by omega)⟩
  · skip
    rw [nI_leI (by decide) (by omega)] at b5
    have ht : t < 100 := by omega
    refine v_aload_n dX4_lays_8 rfl rfl ?_
    refine v_getR fX4_27 dX4_lays_9 (mK_obj hm) (mR_lit hm) ?_ fcA_I
    refine v_iload_n dX4_lays_12 rfl rfl ?_
    refine v_aload_n dX4_lays_13 rfl rfl ?_
    refine v_getR fX4_17 dX4_lays_14 (mK_obj hm) (mR_all hm) ?_ fcA_I
    refine v_iconst (v := 0) dX4_lays_17 (by decide) ?_
    refine v_iload_n dX4_lays_18 rfl rfl ?_
    refine v_iadd dX4_lays_19 ?_
    refine v_iald dX4_lays_20 (mK_all hm) (ix_add (ix_lit _) rfl) (by first | assumption | omega) ?_
    rw [show (0 + t : Nat) = t from Nat.zero_add t, CU_p hcu 243 (by decide)]
    refine v_iast dX4_lays_21 (mK_lit hm) rfl (by first | assumption | omega) ?_
    generalize hg21 : up_I hh 245 (t) (_) = hw21
    have hcu : CU_ h nC sN S t hw21 _ := hg21 ▸ CU_w0 hcu ht
    have hm : MI hw21 := CU_m hcu hm0
    clear hg21
    refine v_aload_n dX4_lays_22 rfl rfl ?_
    refine v_getR fX4_42 dX4_lays_23 (mK_obj hm) (mR_ruled hm) ?_ fcA_I
    refine v_iload_n dX4_lays_26 rfl rfl ?_
    refine v_iconst (v := 0) dX4_lays_27 (by decide) ?_
    refine v_iast dX4_lays_28 (mK_ruled hm) rfl (by first | assumption | omega) ?_
    generalize hg28 : up_I hw21 250 (t) (_) = hw28
    have hcu : CU_ h nC sN S t hw28 _ := hg28 ▸ CU_w5 hcu ht
    have hm : MI hw28 := CU_m hcu hm0
    clear hg28
    refine v_iconst (v := 0) dX4_lays_29 (by decide) ?_
    refine v_istore_n dX4_lays_30 rfl (by decide) ?_
    refine v_loc2 (by repeat' (first | exact trivial | refine And.intro ?_ ?_ | exact rfl)) (v_lp2 (fun (k : Nat) (hh : AH) => nC - k) (fun (k : Nat) (hh : AH) => k ≤ nC ∧ ∃ cur, CU_ h nC sN S t hh cur ∧ cur 0 0 = li_ (hp_I h 243) (ct_ h) S t k ∧ cur 5 0 = 0) (fun (k : Nat) (hh : AH) => [(0, .ref 241), (1, .int S), (2, .int (nI t)), (3, .int (nI k))]) (fun (k : Nat) (hh : AH) => hh) ?_ 0 _ ⟨by omega, _, hcu, by rw [u2_n (by decide), u2_s]; rfl, by rw [u2_s]⟩)
    intro k hh hI IH
    obtain ⟨hI, cur, hcu, hF0, hF5⟩ := hI
    have hm : MI hh := CU_m hcu hm0
    have e0 : ct_ h 0 k = hp_I h 263 k := rfl
    have e1 : ct_ h 1 k = hp_I h 264 k := rfl
    have e2 : ct_ h 2 k = hp_I h 265 k := rfl
    have e3 : ct_ h 3 k = hp_I h 266 k := rfl
    have e4 : ct_ h 4 k = hp_I h 267 k := rfl
    refine v_iload_n dX4_lays_31 rfl rfl ?_
    refine v_aload_n dX4_lays_32 rfl rfl ?_
    refine v_getI fX4_122 dX4_lays_33 (mK_obj hm) ?_
    rw [CU_p hcu 241 (by decide), hC]
    refine v_icmp_ge (tgt := 112) dX4_lays_36 (by decide) (fun b36 => ?_) (fun b36 => ?_)
    · skip
      rw [nI_leI (by omega) (by omega)] at b36
      have hk : nC = k := by omega
      subst hk
      clear IH
      refine v_iconst (v := 0) dX4_lays_112 (by decide) ?_
      refine v_istore_n dX4_lays_113 rfl (by decide) ?_
      refine v_loc2 (by repeat' (first | exact trivial | refine And.intro ?_ ?_ | exact rfl)) (v_lp2 (fun (k : Nat) (hh : AH) => sN + 1 - k) (fun (k : Nat) (hh : AH) => k ≤ sN + 1 ∧ ∃ cur, CU_ h nC sN S t hh cur ∧ cur 0 0 = li_ (hp_I h 243) (ct_ h) S t nC ∧ cur 5 0 = 0 ∧ ∀ s, s < k → cur 1 s = 0 ∧ cur 2 s = 0) (fun (k : Nat) (hh : AH) => [(0, .ref 241), (1, .int S), (2, .int (nI t)), (3, .int (nI k))]) (fun (k : Nat) (hh : AH) => hh) ?_ 0 _ ⟨by omega, _, hcu, hF0, hF5, fun s hs => absurd hs (Nat.not_lt_zero _)⟩)
      intro k hh hI IH
      obtain ⟨hI, cur, hcu, hF0, hF5, hF1⟩ := hI
      have hm : MI hh := CU_m hcu hm0
      refine v_iload_n dX4_lays_114 rfl rfl ?_
      refine v_aload_n dX4_lays_115 rfl rfl ?_
      refine v_getI fX4_24 dX4_lays_116 (mK_obj hm) ?_
      rw [CU_p hcu 241 (by decide), hs]
      refine v_icmp_gt (tgt := 152) dX4_lays_119 (by decide) (fun b119 => ?_) (fun b119 => ?_)
      · skip
        rw [nI_ltI (by omega) (by omega)] at b119
        have hk : sN + 1 = k := by omega
        subst hk
        clear IH
        refine v_iconst (v := 0) dX4_lays_152 (by decide) ?_
        refine v_istore_n dX4_lays_153 rfl (by decide) ?_
        refine v_loc2 (by repeat' (first | exact trivial | refine And.intro ?_ ?_ | exact rfl)) (v_lp2 (fun (k : Nat) (hh : AH) => sN - k) (fun (k : Nat) (hh : AH) => k ≤ sN ∧ ∃ cur, CU_ h nC sN S t hh cur ∧ cur 0 0 = li_ (hp_I h 243) (ct_ h) S t nC ∧ cur 5 0 = nI (sb_ (fun p => ¬ rul_ (ct_ h) S p t nC = -1) k) ∧ (∀ s, s ≤ sN → cur 1 s = nI (sb_ (fun p => eyes_ (hp_I h 243) (ct_ h) nC S p t = nI s) k) ∧ cur 2 s = nI (sb_ (fun p => eyes_ (hp_I h 243) (ct_ h) nC S p t = nI s ∧ hp_I h 243 (100 + p) ≤ li_ (hp_I h 243) (ct_ h) S t nC) k))) (fun (k : Nat) (hh : AH) => [(0, .ref 241), (1, .int S), (2, .int (nI t)), (3, .int (nI k))]) (fun (k : Nat) (hh : AH) => hh) ?_ 0 _ ⟨by omega, _, hcu, hF0, hF5, fun s hs => ⟨(hF1 s (by omega)).1, (hF1 s (by omega)).2⟩⟩)
        intro k hh hI IH
        obtain ⟨hI, cur, hcu, hF0, hF5, hF1⟩ := hI
        have hm : MI hh := CU_m hcu hm0
        have hvh : sv_ok (hp_I hh 243) sN := by rw [CU_p hcu 243 (by decide)]; exact hv
        have hCh : hp_I hh 241 48 = nI nC := by rw [CU_p hcu 241 (by decide)]; exact hC
        refine v_iload_n dX4_lays_154 rfl rfl ?_
        refine v_aload_n dX4_lays_155 rfl rfl ?_
        refine v_getI fX4_24 dX4_lays_156 (mK_obj hm) ?_
        rw [CU_p hcu 241 (by decide), hs]
        refine v_icmp_ge (tgt := 263) dX4_lays_159 (by decide) (fun b159 => ?_) (fun b159 => ?_)
        · skip
          rw [nI_leI (by omega) (by omega)] at b159
          have hk : sN = k := by omega
          subst hk
          clear IH
          refine v_iconst (v := 0) dX4_lays_263 (by decide) ?_
          refine v_istore_n dX4_lays_264 rfl (by decide) ?_
          refine v_loc2 (by repeat' (first | exact trivial | refine And.intro ?_ ?_ | exact rfl)) (v_lp2 (fun (k : Nat) (hh : AH) => (2 * sN) - k) (fun (k : Nat) (hh : AH) => k ≤ (2 * sN) ∧ ∃ cur, CU_ h nC sN S t hh cur ∧ (cur 0 0 = li_ (hp_I h 243) (ct_ h) S t nC ∧ cur 5 0 = nI (sb_ (fun p => ¬ rul_ (ct_ h) S p t nC = -1) sN) ∧ (∀ s, s ≤ sN → cur 1 s = nI (sb_ (fun p => eyes_ (hp_I h 243) (ct_ h) nC S p t = nI s) sN) ∧ cur 2 s = nI (sb_ (fun p => eyes_ (hp_I h 243) (ct_ h) nC S p t = nI s ∧ hp_I h 243 (100 + p) ≤ li_ (hp_I h 243) (ct_ h) S t nC) sN))) ∧ ∀ a, a < k → cur 4 a = 0 ∧ cur 6 a = b2i (hp_I h 243 (2870 + 100 * a + t) = -1) ∧ cur 7 a = 0) (fun (k : Nat) (hh : AH) => [(0, .ref 241), (1, .int S), (2, .int (nI t)), (3, .int (nI k))]) (fun (k : Nat) (hh : AH) => hh) ?_ 0 _ ⟨by omega, _, hcu, ⟨hF0, hF5, hF1⟩, fun s hs => absurd hs (Nat.not_lt_zero _)⟩)
          intro k hh hI IH
          obtain ⟨hI, cur, hcu, hK3, hF4⟩ := hI
          have hm : MI hh := CU_m hcu hm0
          refine v_iload_n dX4_lays_265 rfl rfl ?_
          refine v_iconst (v := 2) dX4_lays_266 (by decide) ?_
          refine v_aload_n dX4_lays_267 rfl rfl ?_
          refine v_getI fX4_24 dX4_lays_268 (mK_obj hm) ?_
          rw [CU_p hcu 241 (by decide), hs]
          refine v_imul dX4_lays_271 ?_
          rw [nI_2]
          refine v_icmp_ge (tgt := 340) dX4_lays_272 (by decide) (fun b272 => ?_) (fun b272 => ?_)
          · skip
            rw [nI_leI (by omega) (by omega)] at b272
            have hk : (2 * sN) = k := by omega
            subst hk
            clear IH
            refine v_iconst (v := 0) dX4_lays_340 (by decide) ?_
            refine v_istore_n dX4_lays_341 rfl (by decide) ?_
            refine v_loc2 (by repeat' (first | exact trivial | refine And.intro ?_ ?_ | exact rfl)) (v_lp2 (fun (k : Nat) (hh : AH) => (2 * sN) - k) (fun (k : Nat) (hh : AH) => k ≤ (2 * sN) ∧ ∃ cur, CU_ h nC sN S t hh cur ∧ (cur 0 0 = li_ (hp_I h 243) (ct_ h) S t nC ∧ cur 5 0 = nI (sb_ (fun p => ¬ rul_ (ct_ h) S p t nC = -1) sN) ∧ (∀ s, s ≤ sN → cur 1 s = nI (sb_ (fun p => eyes_ (hp_I h 243) (ct_ h) nC S p t = nI s) sN) ∧ cur 2 s = nI (sb_ (fun p => eyes_ (hp_I h 243) (ct_ h) nC S p t = nI s ∧ hp_I h 243 (100 + p) ≤ li_ (hp_I h 243) (ct_ h) S t nC) sN))) ∧ (∀ a, a < 2 * sN → cur 4 a = nI (hb_ (hp_I h 243) t a k) ∧ cur 6 a = b2c (hp_I h 243 (2870 + 100 * a + t) = -1 ∧ ∀ j, j < k → ¬ hp_I h 243 (2870 + 100 * j + t) = nI a)) ∧ ∀ a, a < 2 * sN → cur 7 a = 0) (fun (k : Nat) (hh : AH) => [(0, .ref 241), (1, .int S), (2, .int (nI t)), (3, .int (nI k))]) (fun (k : Nat) (hh : AH) => hh) ?_ 0 _ ⟨by omega, _, hcu, hK3, fun a ha => ⟨(hF4 a ha).1, by rw [(hF4 a ha).2.1]; exact b2c_i ⟨fun z => ⟨z, fun j hj => absurd hj (Nat.not_lt_zero _)⟩, fun z => z.1⟩⟩, fun a ha => (hF4 a ha).2.2⟩)
            intro k hh hI IH
            obtain ⟨hI, cur, hcu, hK3, hF4, hF7⟩ := hI
            have hm : MI hh := CU_m hcu hm0
            refine v_iload_n dX4_lays_342 rfl rfl ?_
            refine v_iconst (v := 2) dX4_lays_343 (by decide) ?_
            refine v_aload_n dX4_lays_344 rfl rfl ?_
            refine v_getI fX4_24 dX4_lays_345 (mK_obj hm) ?_
            rw [CU_p hcu 241 (by decide), hs]
            refine v_imul dX4_lays_348 ?_
            rw [nI_2]
            refine v_icmp_ge (tgt := 417) dX4_lays_349 (by decide) (fun b349 => ?_) (fun b349 => ?_)
            · skip
              rw [nI_leI (by omega) (by omega)] at b349
              have hk : (2 * sN) = k := by omega
              subst hk
              clear IH
              refine v_iconst (v := 0) dX4_lays_417 (by decide) ?_
              refine v_istore_n dX4_lays_418 rfl (by decide) ?_
              refine v_loc2 (by repeat' (first | exact trivial | refine And.intro ?_ ?_ | exact rfl)) (v_lp2 (fun (k : Nat) (hh : AH) => nC - k) (fun (k : Nat) (hh : AH) => k ≤ nC ∧ ∃ cur, CU_ h nC sN S t hh cur ∧ (cur 0 0 = li_ (hp_I h 243) (ct_ h) S t nC ∧ cur 5 0 = nI (sb_ (fun p => ¬ rul_ (ct_ h) S p t nC = -1) sN) ∧ (∀ s, s ≤ sN → cur 1 s = nI (sb_ (fun p => eyes_ (hp_I h 243) (ct_ h) nC S p t = nI s) sN) ∧ cur 2 s = nI (sb_ (fun p => eyes_ (hp_I h 243) (ct_ h) nC S p t = nI s ∧ hp_I h 243 (100 + p) ≤ li_ (hp_I h 243) (ct_ h) S t nC) sN))) ∧ (∀ a, a < 2 * sN → cur 4 a = nI (hb_ (hp_I h 243) t a (2 * sN))) ∧ (∀ a, a < 2 * sN → cur 6 a = b2c ((hp_I h 243 (2870 + 100 * a + t) = -1 ∧ ∀ k, k < 2 * sN → ¬ hp_I h 243 (2870 + 100 * k + t) = nI a) ∧ ∀ c, c < k → ¬ tie_ (ct_ h) S a t c) ∧ cur 7 a = b2c (∃ c, c < k ∧ tie_ (ct_ h) S a t c))) (fun (k : Nat) (hh : AH) => [(0, .ref 241), (1, .int S), (2, .int (nI t)), (3, .int (nI k))]) (fun (k : Nat) (hh : AH) => hh) ?_ 0 _ ⟨by omega, _, hcu, hK3, fun a ha => (hF4 a ha).1, fun a ha => ⟨by rw [(hF4 a ha).2]; exact b2c_c ⟨fun z => ⟨z, fun c h9 => absurd h9 (Nat.not_lt_zero _)⟩, fun z => z.1⟩, by rw [hF7 a ha]; exact (b2c_f (fun z => by obtain ⟨c, h9, -⟩ := z; exact absurd h9 (Nat.not_lt_zero _))).symm⟩⟩)
              intro k hh hI IH
              obtain ⟨hI, cur, hcu, hK3, hF4, hF6⟩ := hI
              have hm : MI hh := CU_m hcu hm0
              have e0 : ct_ h 0 k = hp_I h 263 k := rfl
              have e1 : ct_ h 1 k = hp_I h 264 k := rfl
              have e2 : ct_ h 2 k = hp_I h 265 k := rfl
              have e3 : ct_ h 3 k = hp_I h 266 k := rfl
              have e4 : ct_ h 4 k = hp_I h 267 k := rfl
              refine v_iload_n dX4_lays_419 rfl rfl ?_
              refine v_aload_n dX4_lays_420 rfl rfl ?_
              refine v_getI fX4_122 dX4_lays_421 (mK_obj hm) ?_
              rw [CU_p hcu 241 (by decide), hC]
              refine v_icmp_ge (tgt := 509) dX4_lays_424 (by decide) (fun b424 => ?_) (fun b424 => ?_)
              · skip
                rw [nI_leI (by omega) (by omega)] at b424
                have hk : nC = k := by omega
                subst hk
                clear IH
                refine v_iconst (v := 0) dX4_lays_509 (by decide) ?_
                refine v_istore_n dX4_lays_510 rfl (by decide) ?_
                refine v_loc2 (by repeat' (first | exact trivial | refine And.intro ?_ ?_ | exact rfl)) (v_lp2 (fun (k : Nat) (hh : AH) => (2 * sN) - k) (fun (k : Nat) (hh : AH) => k ≤ (2 * sN) ∧ ∃ cur, CU_ h nC sN S t hh cur ∧ (cur 0 0 = li_ (hp_I h 243) (ct_ h) S t nC ∧ cur 5 0 = nI (sb_ (fun p => ¬ rul_ (ct_ h) S p t nC = -1) sN) ∧ (∀ s, s ≤ sN → cur 1 s = nI (sb_ (fun p => eyes_ (hp_I h 243) (ct_ h) nC S p t = nI s) sN) ∧ cur 2 s = nI (sb_ (fun p => eyes_ (hp_I h 243) (ct_ h) nC S p t = nI s ∧ hp_I h 243 (100 + p) ≤ li_ (hp_I h 243) (ct_ h) S t nC) sN))) ∧ (∀ a, a < 2 * sN → cur 4 a = nI (hb_ (hp_I h 243) t a (2 * sN))) ∧ (∀ a, a < 2 * sN → cur 6 a = b2c ((hp_I h 243 (2870 + 100 * a + t) = -1 ∧ ∀ k, k < 2 * sN → ¬ hp_I h 243 (2870 + 100 * k + t) = nI a) ∧ ∀ c, c < nC → ¬ tie_ (ct_ h) S a t c) ∧ cur 7 a = b2c (∃ c, c < nC ∧ tie_ (ct_ h) S a t c)) ∧ ∀ a, a < k → cur 3 a = cv_s (hp_I h 243) (ct_ h) nC sN S 3 a t) (fun (k : Nat) (hh : AH) => [(0, .ref 241), (1, .int S), (2, .int (nI t)), (3, .int (nI k))]) (fun (k : Nat) (hh : AH) => hh) ?_ 0 _ ⟨by omega, _, hcu, hK3, hF4, hF6, fun a h9 => absurd h9 (Nat.not_lt_zero _)⟩)
                intro k hh hI IH
                obtain ⟨hI, cur, hcu, hK3, hF4, hF6, hF3⟩ := hI
                have hm : MI hh := CU_m hcu hm0
                refine v_iload_n dX4_lays_511 rfl rfl ?_
                refine v_iconst (v := 2) dX4_lays_512 (by decide) ?_
                refine v_aload_n dX4_lays_513 rfl rfl ?_
                refine v_getI fX4_24 dX4_lays_514 (mK_obj hm) ?_
                rw [CU_p hcu 241 (by decide), hs]
                refine v_imul dX4_lays_517 ?_
                rw [nI_2]
                refine v_icmp_ge (tgt := 571) dX4_lays_518 (by decide) (fun b518 => ?_) (fun b518 => ?_)
                · skip
                  rw [nI_leI (by omega) (by omega)] at b518
                  have hk : (2 * sN) = k := by omega
                  subst hk
                  clear IH
                  have hfin : ∀ j, j < 8 → ∀ s, s < lm_ sN j → cur j s = cv_s (hp_I h 243) (ct_ h) nC sN S j s t := by
                    intro j hj s hs9
                    rcases (show j = 0 ∨ j = 1 ∨ j = 2 ∨ j = 3 ∨ j = 4 ∨ j = 5 ∨ j = 6 ∨ j = 7 by omega) with e | e | e | e | e | e | e | e <;> subst e
                    · have : s = 0 := by have : s < 1 := hs9; omega
                      subst this; exact hK3.1
                    · exact (hK3.2.2 s (Nat.lt_succ_iff.mp hs9)).1
                    · exact (hK3.2.2 s (Nat.lt_succ_iff.mp hs9)).2
                    · exact hF3 s hs9
                    · exact hF4 s hs9
                    · have : s = 0 := by have : s < 1 := hs9; omega
                      subst this; exact hK3.2.1
                    · exact (hF6 s hs9).1.trans (b2c_c ⟨fun z => ⟨z.1.1, z.1.2, fun ⟨c, y1, y2⟩ => z.2 c y1 y2⟩, fun z => ⟨⟨z.1, z.2.1⟩, fun c y1 y2 => z.2.2 ⟨c, y1, y2⟩⟩⟩)
                    · exact (hF6 s hs9).2
                  refine v_iinc dX4_lays_571 rfl (by first | with_reducible exact nI_inc _ | exact rfl) (by decide) ?_
                  refine v_goto (tgt := 2) dX4_lays_574 (by decide) ?_
                  refine v_loc2 (by repeat' (first | exact trivial | refine And.intro ?_ ?_ | exact rfl)) (IHo (t + 1) _ ⟨by omega, fun j s => hp_I hh (245 + j) (100 * s + (t + 1)), hcu.1, fun t9 ht9 => ?_, fun _ _ _ => rfl⟩ (by omega))
                  by_cases e9 : t9 = t
                  · subst e9
                    intro j hj s hs9
                    rw [hcu.2.2 j s hj]
                    exact hfin j hj s hs9
                  · exact hcu.2.1 t9 (by omega)
                · skip
                  rw [nI_leI (by omega) (by omega)] at b518
                  have hk : k < (2 * sN) := by omega
                  refine v_aload_n dX4_lays_521 rfl rfl ?_
                  refine v_getR fX4_36 dX4_lays_522 (mK_obj hm) (mR_vouched hm) ?_ fcA_I
                  refine v_bipush (v := 100) dX4_lays_525 (by decide) ?_
                  refine v_iload_n dX4_lays_527 rfl rfl ?_
                  refine v_imul dX4_lays_528 ?_
                  refine v_iload_n dX4_lays_529 rfl rfl ?_
                  refine v_iadd dX4_lays_530 ?_
                  refine v_aload_n dX4_lays_531 rfl rfl ?_
                  refine v_getR fX4_39 dX4_lays_532 (mK_obj hm) (mR_heldBy hm) ?_ fcA_I
                  refine v_bipush (v := 100) dX4_lays_535 (by decide) ?_
                  refine v_iload_n dX4_lays_537 rfl rfl ?_
                  refine v_imul dX4_lays_538 ?_
                  refine v_iload_n dX4_lays_539 rfl rfl ?_
                  refine v_iadd dX4_lays_540 ?_
                  refine v_iald dX4_lays_541 (mK_heldBy hm) (ix_add (ix_mul (ix_lit _) rfl) rfl) (by first | assumption | omega) ?_
                  rw [CU_r4 hcu, hF4 k (by omega)]
                  refine v_aload_n dX4_lays_542 rfl rfl ?_
                  refine v_getR fX4_33 dX4_lays_543 (mK_obj hm) (mR_watched hm) ?_ fcA_I
                  refine v_bipush (v := 100) dX4_lays_546 (by decide) ?_
                  refine v_iload_n dX4_lays_548 rfl rfl ?_
                  refine v_iconst (v := 2) dX4_lays_549 (by decide) ?_
                  refine v_idiv dX4_lays_550 (by decide) ?_
                  rw [show (nI k / 2 : Int32) = nI (k / 2) from pk_div (d := 2) (by omega) (by decide) (by decide)]
                  refine v_imul dX4_lays_551 ?_
                  refine v_iload_n dX4_lays_552 rfl rfl ?_
                  refine v_iadd dX4_lays_553 ?_
                  refine v_iald dX4_lays_554 (mK_watched hm) (ix_add (ix_mul (ix_lit _) rfl) rfl) (by first | assumption | omega) ?_
                  rw [CU_r2 hcu, (hK3.2.2 (k / 2) (by omega)).2]
                  refine v_iconst (v := 1) dX4_lays_555 (by decide) ?_
                  refine v_iload_n dX4_lays_556 rfl rfl ?_
                  refine v_iconst (v := 2) dX4_lays_557 (by decide) ?_
                  refine v_idiv dX4_lays_558 (by decide) ?_
                  rw [show (nI k / 2 : Int32) = nI (k / 2) from pk_div (d := 2) (by omega) (by decide) (by decide)]
                  refine v_ishl dX4_lays_559 ?_
                  refine v_iconst (v := (-1)) dX4_lays_560 (by decide) ?_
                  refine v_ixor dX4_lays_561 ?_
                  refine v_iand dX4_lays_562 ?_
                  refine v_ior dX4_lays_563 ?_
                  refine v_iast dX4_lays_564 (mK_vouched hm) (ix_add (ix_mul (ix_lit _) rfl) rfl) (by first | assumption | omega) ?_
                  generalize hg564 : up_I hh 248 (100 * k + t) (_) = hw564
                  have hcu : CU_ h nC sN S t hw564 _ := hg564 ▸ CU_w3 hcu ht
                  have hm : MI hw564 := CU_m hcu hm0
                  clear hg564
                  refine v_iinc dX4_lays_565 rfl (by first | with_reducible exact nI_inc _ | exact rfl) (by decide) ?_
                  refine v_goto (tgt := 511) dX4_lays_568 (by decide) ?_
                  refine v_loc2 (by repeat' (first | exact trivial | refine And.intro ?_ ?_ | exact rfl)) (IH (k + 1) _ ⟨by omega, _, hcu, ⟨?_, ?_, fun s hs9 => ?_⟩, fun a ha9 => ?_, fun a ha9 => ?_, fun a ha9 => ?_⟩ (by omega))
                  all_goals clear IH IHo
                  · (repeat rw [u2_n (by omega)]); exact hK3.1
                  · (repeat rw [u2_n (by omega)]); exact hK3.2.1
                  · (repeat rw [u2_n (by omega)]); exact hK3.2.2 s hs9
                  · (repeat rw [u2_n (by omega)]); exact hF4 a ha9
                  · (repeat rw [u2_n (by omega)]); exact hF6 a ha9
                  · by_cases e9 : a = k
                    · subst e9; rw [u2_s]; rfl
                    · rw [u2_n (by omega)]; exact hF3 a (by omega)
              · skip
                rw [nI_leI (by omega) (by omega)] at b424
                have hk : k < nC := by omega
                refine v_iload_n dX4_lays_427 rfl rfl ?_
                refine v_iload_n dX4_lays_428 rfl rfl ?_
                refine v_pS mtX4_has q1859 q1860 dX4_lays_429 (c_X4_has _ _) (by decide) ?_
                refine v_if_eq (tgt := 503) dX4_lays_432 (by decide) (fun b432 => ?_) (fun b432 => ?_)
                · skip
                  refine v_iinc dX4_lays_503 rfl (by first | with_reducible exact nI_inc _ | exact rfl) (by decide) ?_
                  refine v_goto (tgt := 419) dX4_lays_506 (by decide) ?_
                  refine v_loc2 (by repeat' (first | exact trivial | refine And.intro ?_ ?_ | exact rfl)) (IH (k + 1) _ ⟨by omega, _, hcu, ⟨?_, ?_, fun s hs9 => ?_⟩, fun a ha9 => ?_, ?_⟩ (by omega))
                  all_goals clear IH IHo
                  · (repeat rw [u2_n (by omega)]); exact hK3.1
                  · (repeat rw [u2_n (by omega)]); exact hK3.2.1
                  · (repeat rw [u2_n (by omega)]); exact hK3.2.2 s hs9
                  · (repeat rw [u2_n (by omega)]); exact hF4 a ha9
                  · (try simp only [b2i_0, b2i_n0] at *)
                    first
                    | exact lf_b (a0 := a0) hF6 (fun a ha9 => ⟨fun z => (nI_eq (by omega) (by omega)).mp (z.2.2.1.symm.trans he0), fun z => by subst z; exact ⟨by grind, by grind, he0, by grind, by grind⟩⟩) (fun s => by simp [up_2]) (fun s => by simp [up_2])
                    | exact lf_a hF6 (fun a ha9 z => by unfold tie_ at z; grind) (fun s => rfl) (fun s => rfl)
                · skip
                  refine v_aload_n dX4_lays_435 rfl rfl ?_
                  refine v_getR fX4_85 dX4_lays_436 (mK_obj hm) (mR_controlKind hm) ?_ fcA_I
                  refine v_iload_n dX4_lays_439 rfl rfl ?_
                  refine v_iald dX4_lays_440 (mK_controlKind hm) rfl (by first | assumption | omega) ?_
                  rw [CU_p hcu 263 (by decide)]
                  refine v_if_ne (tgt := 503) dX4_lays_441 (by decide) (fun b441 => ?_) (fun b441 => ?_)
                  · skip
                    refine v_iinc dX4_lays_503 rfl (by first | with_reducible exact nI_inc _ | exact rfl) (by decide) ?_
                    refine v_goto (tgt := 419) dX4_lays_506 (by decide) ?_
                    refine v_loc2 (by repeat' (first | exact trivial | refine And.intro ?_ ?_ | exact rfl)) (IH (k + 1) _ ⟨by omega, _, hcu, ⟨?_, ?_, fun s hs9 => ?_⟩, fun a ha9 => ?_, ?_⟩ (by omega))
                    all_goals clear IH IHo
                    · (repeat rw [u2_n (by omega)]); exact hK3.1
                    · (repeat rw [u2_n (by omega)]); exact hK3.2.1
                    · (repeat rw [u2_n (by omega)]); exact hK3.2.2 s hs9
                    · (repeat rw [u2_n (by omega)]); exact hF4 a ha9
                    · (try simp only [b2i_0, b2i_n0] at *)
                      first
                      | exact lf_b (a0 := a0) hF6 (fun a ha9 => ⟨fun z => (nI_eq (by omega) (by omega)).mp (z.2.2.1.symm.trans he0), fun z => by subst z; exact ⟨by grind, by grind, he0, by grind, by grind⟩⟩) (fun s => by simp [up_2]) (fun s => by simp [up_2])
                      | exact lf_a hF6 (fun a ha9 z => by unfold tie_ at z; grind) (fun s => rfl) (fun s => rfl)
                  · skip
                    refine v_iload_n dX4_lays_444 rfl rfl ?_
                    refine v_i2l dX4_lays_445 ?_
                    refine v_aload_n dX4_lays_446 rfl rfl ?_
                    refine v_getR fX4_94 dX4_lays_447 (mK_obj hm) (mR_controlFrom hm) ?_ fcA_I
                    refine v_iload_n dX4_lays_450 rfl rfl ?_
                    refine v_iald dX4_lays_451 (mK_controlFrom hm) rfl (by first | assumption | omega) ?_
                    refine v_i2l dX4_lays_452 ?_
                    rw [CU_p hcu 266 (by decide)]
                    refine v_aload_n dX4_lays_453 rfl rfl ?_
                    refine v_getR fX4_97 dX4_lays_454 (mK_obj hm) (mR_controlTo hm) ?_ fcA_I
                    refine v_iload_n dX4_lays_457 rfl rfl ?_
                    refine v_iald dX4_lays_458 (mK_controlTo hm) rfl (by first | assumption | omega) ?_
                    refine v_i2l dX4_lays_459 ?_
                    rw [CU_p hcu 267 (by decide)]
                    refine v_pS mtX4_within q1790 q1791 dX4_lays_460 (c_X4_within _ _ _) (by decide) ?_
                    refine v_if_ne (tgt := 469) dX4_lays_463 (by decide) (fun b463 => ?_) (fun b463 => ?_)
                    · skip
                      have hk0 : ct_ h 0 k = 0 := by (try simp only [b2i_0, b2i_n0] at *); first | exact b441 | grind
                      obtain ⟨a0, ha0, he0⟩ : in_ (ct_ h 1 k) (2 * sN) := by rcases (hc.2 k hk).1 with ⟨-, z⟩ | ⟨z, -⟩ | ⟨z, -⟩; exact z; (rw [hk0] at z; exact absurd z (by decide)); (rw [hk0] at z; exact absurd z (by decide))
                      refine v_aload_n dX4_lays_469 rfl rfl ?_
                      refine v_getR fX4_45 dX4_lays_470 (mK_obj hm) (mR_isFree hm) ?_ fcA_Z
                      refine v_bipush (v := 100) dX4_lays_473 (by decide) ?_
                      refine v_aload_n dX4_lays_475 rfl rfl ?_
                      refine v_getR fX4_88 dX4_lays_476 (mK_obj hm) (mR_controlWhat hm) ?_ fcA_I
                      refine v_iload_n dX4_lays_479 rfl rfl ?_
                      refine v_iald dX4_lays_480 (mK_controlWhat hm) rfl (by first | assumption | omega) ?_
                      rw [CU_p hcu 264 (by decide), show hp_I h 264 k = nI a0 from he0]
                      refine v_imul dX4_lays_481 ?_
                      refine v_iload_n dX4_lays_482 rfl rfl ?_
                      refine v_iadd dX4_lays_483 ?_
                      refine v_iconst (v := 0) dX4_lays_484 (by decide) ?_
                      refine v_zast dX4_lays_485 (mK_isFree hm) (ix_add (ix_mul (ix_lit _) rfl) rfl) (by first | assumption | omega) (by first | exact Or.inl rfl | exact Or.inr rfl | exact b2i_01 | assumption) ?_
                      generalize hg485 : up_I hh 251 (100 * a0 + t) (_) = hw485
                      have hcu : CU_ h nC sN S t hw485 _ := hg485 ▸ CU_w6 hcu ht
                      have hm : MI hw485 := CU_m hcu hm0
                      clear hg485
                      refine v_aload_n dX4_lays_486 rfl rfl ?_
                      refine v_getR fX4_48 dX4_lays_487 (mK_obj hm) (mR_isTied hm) ?_ fcA_Z
                      refine v_bipush (v := 100) dX4_lays_490 (by decide) ?_
                      refine v_aload_n dX4_lays_492 rfl rfl ?_
                      refine v_getR fX4_88 dX4_lays_493 (mK_obj hm) (mR_controlWhat hm) ?_ fcA_I
                      refine v_iload_n dX4_lays_496 rfl rfl ?_
                      refine v_iald dX4_lays_497 (mK_controlWhat hm) rfl (by first | assumption | omega) ?_
                      rw [CU_p hcu 264 (by decide), show hp_I h 264 k = nI a0 from he0]
                      refine v_imul dX4_lays_498 ?_
                      refine v_iload_n dX4_lays_499 rfl rfl ?_
                      refine v_iadd dX4_lays_500 ?_
                      refine v_iconst (v := 1) dX4_lays_501 (by decide) ?_
                      refine v_zast dX4_lays_502 (mK_isTied hm) (ix_add (ix_mul (ix_lit _) rfl) rfl) (by first | assumption | omega) (by first | exact Or.inl rfl | exact Or.inr rfl | exact b2i_01 | assumption) ?_
                      generalize hg502 : up_I hw485 252 (100 * a0 + t) (_) = hw502
                      have hcu : CU_ h nC sN S t hw502 _ := hg502 ▸ CU_w7 hcu ht
                      have hm : MI hw502 := CU_m hcu hm0
                      clear hg502
                      refine v_iinc dX4_lays_503 rfl (by first | with_reducible exact nI_inc _ | exact rfl) (by decide) ?_
                      refine v_goto (tgt := 419) dX4_lays_506 (by decide) ?_
                      refine v_loc2 (by repeat' (first | exact trivial | refine And.intro ?_ ?_ | exact rfl)) (IH (k + 1) _ ⟨by omega, _, hcu, ⟨?_, ?_, fun s hs9 => ?_⟩, fun a ha9 => ?_, ?_⟩ (by omega))
                      all_goals clear IH IHo
                      · (repeat rw [u2_n (by omega)]); exact hK3.1
                      · (repeat rw [u2_n (by omega)]); exact hK3.2.1
                      · (repeat rw [u2_n (by omega)]); exact hK3.2.2 s hs9
                      · (repeat rw [u2_n (by omega)]); exact hF4 a ha9
                      · (try simp only [b2i_0, b2i_n0] at *)
                        first
                        | exact lf_b (a0 := a0) hF6 (fun a ha9 => ⟨fun z => (nI_eq (by omega) (by omega)).mp (z.2.2.1.symm.trans he0), fun z => by subst z; exact ⟨by grind, by grind, he0, by grind, by grind⟩⟩) (fun s => by simp [up_2]) (fun s => by simp [up_2])
                        | exact lf_a hF6 (fun a ha9 z => by unfold tie_ at z; grind) (fun s => rfl) (fun s => rfl)
                    · skip
                      refine v_goto (tgt := 503) dX4_lays_466 (by decide) ?_
                      refine v_iinc dX4_lays_503 rfl (by first | with_reducible exact nI_inc _ | exact rfl) (by decide) ?_
                      refine v_goto (tgt := 419) dX4_lays_506 (by decide) ?_
                      refine v_loc2 (by repeat' (first | exact trivial | refine And.intro ?_ ?_ | exact rfl)) (IH (k + 1) _ ⟨by omega, _, hcu, ⟨?_, ?_, fun s hs9 => ?_⟩, fun a ha9 => ?_, ?_⟩ (by omega))
                      all_goals clear IH IHo
                      · (repeat rw [u2_n (by omega)]); exact hK3.1
                      · (repeat rw [u2_n (by omega)]); exact hK3.2.1
                      · (repeat rw [u2_n (by omega)]); exact hK3.2.2 s hs9
                      · (repeat rw [u2_n (by omega)]); exact hF4 a ha9
                      · (try simp only [b2i_0, b2i_n0] at *)
                        first
                        | exact lf_b (a0 := a0) hF6 (fun a ha9 => ⟨fun z => (nI_eq (by omega) (by omega)).mp (z.2.2.1.symm.trans he0), fun z => by subst z; exact ⟨by grind, by grind, he0, by grind, by grind⟩⟩) (fun s => by simp [up_2]) (fun s => by simp [up_2])
                        | exact lf_a hF6 (fun a ha9 z => by unfold tie_ at z; grind) (fun s => rfl) (fun s => rfl)
            · skip
              rw [nI_leI (by omega) (by omega)] at b349
              have hk : k < (2 * sN) := by omega
              refine v_aload_n dX4_lays_352 rfl rfl ?_
              refine v_getR fX4_17 dX4_lays_353 (mK_obj hm) (mR_all hm) ?_ fcA_I
              refine v_sipush (v := 2870) dX4_lays_356 (by decide) ?_
              refine v_bipush (v := 100) dX4_lays_359 (by decide) ?_
              refine v_iload_n dX4_lays_361 rfl rfl ?_
              refine v_imul dX4_lays_362 ?_
              refine v_iadd dX4_lays_363 ?_
              refine v_iload_n dX4_lays_364 rfl rfl ?_
              refine v_iadd dX4_lays_365 ?_
              refine v_iald dX4_lays_366 (mK_all hm) (ix_add (ix_add (ix_lit _) (ix_mul (ix_lit _) rfl)) rfl) (by first | assumption | omega) ?_
              rw [CU_p hcu 243 (by decide)]
              refine v_istore dX4_lays_367 (by decide) ?_
              refine v_iload dX4_lays_369 rfl ?_
              refine v_iconst (v := (-1)) dX4_lays_371 (by decide) ?_
              refine v_icmp_ne (tgt := 378) dX4_lays_372 (by decide) (fun b372 => ?_) (fun b372 => ?_)
              · skip
                obtain ⟨a0, ha0, -, he0⟩ := (sv_truly (a := k) hv (by omega) ht).resolve_left b372
                rw [he0]
                refine v_aload_n dX4_lays_378 rfl rfl ?_
                refine v_getR fX4_39 dX4_lays_379 (mK_obj hm) (mR_heldBy hm) ?_ fcA_I
                refine v_bipush (v := 100) dX4_lays_382 (by decide) ?_
                refine v_iload dX4_lays_384 rfl ?_
                refine v_imul dX4_lays_386 ?_
                refine v_iload_n dX4_lays_387 rfl rfl ?_
                refine v_iadd dX4_lays_388 ?_
                refine v_dup2 dX4_lays_389 rfl rfl ?_
                refine v_iald dX4_lays_390 (mK_heldBy hm) (ix_add (ix_mul (ix_lit _) rfl) rfl) (by first | assumption | omega) ?_
                rw [CU_r4 hcu, (hF4 a0 ha0).1]
                refine v_iconst (v := 1) dX4_lays_391 (by decide) ?_
                refine v_iload_n dX4_lays_392 rfl rfl ?_
                refine v_iconst (v := 2) dX4_lays_393 (by decide) ?_
                refine v_idiv dX4_lays_394 (by decide) ?_
                rw [show (nI k / 2 : Int32) = nI (k / 2) from pk_div (d := 2) (by omega) (by decide) (by decide)]
                refine v_ishl dX4_lays_395 ?_
                refine v_ior dX4_lays_396 ?_
                rw [or_sh (by omega)]
                refine v_iast dX4_lays_397 (mK_heldBy hm) (ix_add (ix_mul (ix_lit _) rfl) rfl) (by first | assumption | omega) ?_
                generalize hg397 : up_I hh 249 (100 * a0 + t) (_) = hw397
                have hcu : CU_ h nC sN S t hw397 _ := hg397 ▸ CU_w4 hcu ht
                have hm : MI hw397 := CU_m hcu hm0
                clear hg397
                refine v_aload_n dX4_lays_398 rfl rfl ?_
                refine v_getR fX4_45 dX4_lays_399 (mK_obj hm) (mR_isFree hm) ?_ fcA_Z
                refine v_bipush (v := 100) dX4_lays_402 (by decide) ?_
                refine v_iload dX4_lays_404 rfl ?_
                refine v_imul dX4_lays_406 ?_
                refine v_iload_n dX4_lays_407 rfl rfl ?_
                refine v_iadd dX4_lays_408 ?_
                refine v_iconst (v := 0) dX4_lays_409 (by decide) ?_
                refine v_zast dX4_lays_410 (mK_isFree hm) (ix_add (ix_mul (ix_lit _) rfl) rfl) (by first | assumption | omega) (by first | exact Or.inl rfl | exact Or.inr rfl | exact b2i_01 | assumption) ?_
                generalize hg410 : up_I hw397 251 (100 * a0 + t) (_) = hw410
                have hcu : CU_ h nC sN S t hw410 _ := hg410 ▸ CU_w6 hcu ht
                have hm : MI hw410 := CU_m hcu hm0
                clear hg410
                refine v_iinc dX4_lays_411 rfl (by first | with_reducible exact nI_inc _ | exact rfl) (by decide) ?_
                refine v_goto (tgt := 342) dX4_lays_414 (by decide) ?_
                refine v_loc2 (by repeat' (first | exact trivial | refine And.intro ?_ ?_ | exact rfl)) (IH (k + 1) _ ⟨by omega, _, hcu, ⟨?_, ?_, fun s hs9 => ?_⟩, ?_, fun a ha9 => ?_⟩ (by omega))
                all_goals clear IH IHo
                · (repeat rw [u2_n (by omega)]); exact hK3.1
                · (repeat rw [u2_n (by omega)]); exact hK3.2.1
                · (repeat rw [u2_n (by omega)]); exact hK3.2.2 s hs9
                · first
                  | exact le_a (by omega) hF4 b372 (fun s => rfl) (fun s => rfl)
                  | exact le_b (by omega) hF4 ha0 he0 (fun s => by simp [up_2]) (fun s => by simp [up_2])
                · (repeat rw [u2_n (by omega)]); exact hF7 a ha9
              · skip
                refine v_goto (tgt := 411) dX4_lays_375 (by decide) ?_
                refine v_iinc dX4_lays_411 rfl (by first | with_reducible exact nI_inc _ | exact rfl) (by decide) ?_
                refine v_goto (tgt := 342) dX4_lays_414 (by decide) ?_
                refine v_loc2 (by repeat' (first | exact trivial | refine And.intro ?_ ?_ | exact rfl)) (IH (k + 1) _ ⟨by omega, _, hcu, ⟨?_, ?_, fun s hs9 => ?_⟩, ?_, fun a ha9 => ?_⟩ (by omega))
                all_goals clear IH IHo
                · (repeat rw [u2_n (by omega)]); exact hK3.1
                · (repeat rw [u2_n (by omega)]); exact hK3.2.1
                · (repeat rw [u2_n (by omega)]); exact hK3.2.2 s hs9
                · first
                  | exact le_a (by omega) hF4 b372 (fun s => rfl) (fun s => rfl)
                  | exact le_b (by omega) hF4 ha0 he0 (fun s => by simp [up_2]) (fun s => by simp [up_2])
                · (repeat rw [u2_n (by omega)]); exact hF7 a ha9
          · skip
            rw [nI_leI (by omega) (by omega)] at b272
            have hk : k < (2 * sN) := by omega
            refine v_aload_n dX4_lays_275 rfl rfl ?_
            refine v_getR fX4_45 dX4_lays_276 (mK_obj hm) (mR_isFree hm) ?_ fcA_Z
            refine v_bipush (v := 100) dX4_lays_279 (by decide) ?_
            refine v_iload_n dX4_lays_281 rfl rfl ?_
            refine v_imul dX4_lays_282 ?_
            refine v_iload_n dX4_lays_283 rfl rfl ?_
            refine v_iadd dX4_lays_284 ?_
            refine v_join 309 (fun z => z = b2i (hp_I h 243 (2870 + 100 * k + t) = -1)) (fun z hz => ?_) (fun hj309 => ?_)
            · skip
              subst hz
              refine v_zast dX4_lays_309 (mK_isFree hm) (ix_add (ix_mul (ix_lit _) rfl) rfl) (by first | assumption | omega) (by first | exact Or.inl rfl | exact Or.inr rfl | exact b2i_01 | assumption) ?_
              generalize hg309 : up_I hh 251 (100 * k + t) (_) = hw309
              have hcu : CU_ h nC sN S t hw309 _ := hg309 ▸ CU_w6 hcu ht
              have hm : MI hw309 := CU_m hcu hm0
              clear hg309
              refine v_aload_n dX4_lays_310 rfl rfl ?_
              refine v_getR fX4_48 dX4_lays_311 (mK_obj hm) (mR_isTied hm) ?_ fcA_Z
              refine v_bipush (v := 100) dX4_lays_314 (by decide) ?_
              refine v_iload_n dX4_lays_316 rfl rfl ?_
              refine v_imul dX4_lays_317 ?_
              refine v_iload_n dX4_lays_318 rfl rfl ?_
              refine v_iadd dX4_lays_319 ?_
              refine v_iconst (v := 0) dX4_lays_320 (by decide) ?_
              refine v_zast dX4_lays_321 (mK_isTied hm) (ix_add (ix_mul (ix_lit _) rfl) rfl) (by first | assumption | omega) (by first | exact Or.inl rfl | exact Or.inr rfl | exact b2i_01 | assumption) ?_
              generalize hg321 : up_I hw309 252 (100 * k + t) (_) = hw321
              have hcu : CU_ h nC sN S t hw321 _ := hg321 ▸ CU_w7 hcu ht
              have hm : MI hw321 := CU_m hcu hm0
              clear hg321
              refine v_aload_n dX4_lays_322 rfl rfl ?_
              refine v_getR fX4_39 dX4_lays_323 (mK_obj hm) (mR_heldBy hm) ?_ fcA_I
              refine v_bipush (v := 100) dX4_lays_326 (by decide) ?_
              refine v_iload_n dX4_lays_328 rfl rfl ?_
              refine v_imul dX4_lays_329 ?_
              refine v_iload_n dX4_lays_330 rfl rfl ?_
              refine v_iadd dX4_lays_331 ?_
              refine v_iconst (v := 0) dX4_lays_332 (by decide) ?_
              refine v_iast dX4_lays_333 (mK_heldBy hm) (ix_add (ix_mul (ix_lit _) rfl) rfl) (by first | assumption | omega) ?_
              generalize hg333 : up_I hw321 249 (100 * k + t) (_) = hw333
              have hcu : CU_ h nC sN S t hw333 _ := hg333 ▸ CU_w4 hcu ht
              have hm : MI hw333 := CU_m hcu hm0
              clear hg333
              refine v_iinc dX4_lays_334 rfl (by first | with_reducible exact nI_inc _ | exact rfl) (by decide) ?_
              refine v_goto (tgt := 265) dX4_lays_337 (by decide) ?_
              refine v_loc2 (by repeat' (first | exact trivial | refine And.intro ?_ ?_ | exact rfl)) (IH (k + 1) _ ⟨by omega, _, hcu, ⟨?_, ?_, fun s hs9 => ?_⟩, fun a ha9 => ?_⟩ (by omega))
              all_goals clear IH IHo
              · (repeat rw [u2_n (by omega)]); exact hK3.1
              · (repeat rw [u2_n (by omega)]); exact hK3.2.1
              · (repeat rw [u2_n (by omega)]); exact hK3.2.2 s hs9
              · by_cases e9 : a = k
                · subst e9; exact ⟨by rw [u2_s], by rw [u2_n (by omega), u2_n (by omega), u2_s], by rw [u2_n (by omega), u2_s]⟩
                · (repeat rw [u2_n (by omega)]); exact hF4 a (by omega)
            · skip
              refine v_aload_n dX4_lays_285 rfl rfl ?_
              refine v_getR fX4_17 dX4_lays_286 (mK_obj hm) (mR_all hm) ?_ fcA_I
              refine v_sipush (v := 2870) dX4_lays_289 (by decide) ?_
              refine v_bipush (v := 100) dX4_lays_292 (by decide) ?_
              refine v_iload_n dX4_lays_294 rfl rfl ?_
              refine v_imul dX4_lays_295 ?_
              refine v_iadd dX4_lays_296 ?_
              refine v_iload_n dX4_lays_297 rfl rfl ?_
              refine v_iadd dX4_lays_298 ?_
              refine v_iald dX4_lays_299 (mK_all hm) (ix_add (ix_add (ix_lit _) (ix_mul (ix_lit _) rfl)) rfl) (by first | assumption | omega) ?_
              rw [CU_p hcu 243 (by decide)]
              refine v_iconst (v := (-1)) dX4_lays_300 (by decide) ?_
              refine v_icmp_ne (tgt := 308) dX4_lays_301 (by decide) (fun b301 => ?_) (fun b301 => ?_)
              · skip
                refine v_iconst (v := 0) dX4_lays_308 (by decide) ?_
                exact hj309 _ (by first | exact (b2i_t (by assumption)).symm | exact (b2i_f (by assumption)).symm)
              · skip
                refine v_iconst (v := 1) dX4_lays_304 (by decide) ?_
                refine v_goto (tgt := 309) dX4_lays_305 (by decide) ?_
                exact hj309 _ (by first | exact (b2i_t (by assumption)).symm | exact (b2i_f (by assumption)).symm)
        · skip
          rw [nI_leI (by omega) (by omega)] at b159
          have hk : k < sN := by omega
          refine v_aload_n dX4_lays_162 rfl rfl ?_
          refine v_iload_n dX4_lays_163 rfl rfl ?_
          refine v_iload_n dX4_lays_164 rfl rfl ?_
          refine v_iload_n dX4_lays_165 rfl rfl ?_
          refine v_pV mtX4_eyesOf q1862 q1864 qs66 rfl (by decide) dX4_lays_166 (c_X4_eyesOf hm hvh hCh hc8 ?_ ?_ _) (mK_obj hm) (by decide) ?_
          · omega
          · omega
          rw [CU_p hcu 243 (by decide), CU_c hcu]
          refine v_istore dX4_lays_169 (by decide) ?_
          refine v_aload_n dX4_lays_171 rfl rfl ?_
          refine v_iload_n dX4_lays_172 rfl rfl ?_
          refine v_iload_n dX4_lays_173 rfl rfl ?_
          refine v_iload_n dX4_lays_174 rfl rfl ?_
          refine v_pV mtX4_ruler q1866 q1868 qs67 rfl (by decide) dX4_lays_175 (c_X4_ruler hm hCh hc8 _) (mK_obj hm) (by decide) ?_
          rw [CU_c hcu]
          refine v_iconst (v := (-1)) dX4_lays_178 (by decide) ?_
          refine v_icmp_eq (tgt := 194) dX4_lays_179 (by decide) (fun b179 => ?_) (fun b179 => ?_)
          · skip
            refine v_iload dX4_lays_194 rfl ?_
            refine v_iconst (v := (-1)) dX4_lays_196 (by decide) ?_
            refine v_icmp_ne (tgt := 203) dX4_lays_197 (by decide) (fun b197 => ?_) (fun b197 => ?_)
            · skip
              obtain ⟨s0, hs0, he0⟩ := (eyes_in (p := k) (S := S) hv hc (by omega) ht).resolve_left b197
              rw [he0]
              refine v_aload_n dX4_lays_203 rfl rfl ?_
              refine v_getR fX4_30 dX4_lays_204 (mK_obj hm) (mR_eyed hm) ?_ fcA_I
              refine v_bipush (v := 100) dX4_lays_207 (by decide) ?_
              refine v_iload dX4_lays_209 rfl ?_
              refine v_imul dX4_lays_211 ?_
              refine v_iload_n dX4_lays_212 rfl rfl ?_
              refine v_iadd dX4_lays_213 ?_
              refine v_dup2 dX4_lays_214 rfl rfl ?_
              refine v_iald dX4_lays_215 (mK_eyed hm) (ix_add (ix_mul (ix_lit _) rfl) rfl) (by first | assumption | omega) ?_
              rw [CU_r1 hcu]
              (try rw [u2_n (by omega)])
              rw [(hF1 s0 (by omega)).1]
              refine v_iconst (v := 1) dX4_lays_216 (by decide) ?_
              refine v_iload_n dX4_lays_217 rfl rfl ?_
              refine v_ishl dX4_lays_218 ?_
              refine v_ior dX4_lays_219 ?_
              rw [or_sh (by omega)]
              refine v_iast dX4_lays_220 (mK_eyed hm) (ix_add (ix_mul (ix_lit _) rfl) rfl) (by first | assumption | omega) ?_
              generalize hg220 : up_I _ 246 (100 * s0 + t) (_) = hw220
              have hcu : CU_ h nC sN S t hw220 _ := hg220 ▸ CU_w1 hcu ht
              have hm : MI hw220 := CU_m hcu hm0
              clear hg220
              refine v_aload_n dX4_lays_221 rfl rfl ?_
              refine v_getR fX4_27 dX4_lays_222 (mK_obj hm) (mR_lit hm) ?_ fcA_I
              refine v_iload_n dX4_lays_225 rfl rfl ?_
              refine v_iald dX4_lays_226 (mK_lit hm) rfl (by first | assumption | omega) ?_
              rw [CU_r0 hcu]
              (repeat rw [u2_n (by omega)])
              rw [hF0]
              refine v_aload_n dX4_lays_227 rfl rfl ?_
              refine v_getR fX4_17 dX4_lays_228 (mK_obj hm) (mR_all hm) ?_ fcA_I
              refine v_bipush (v := 100) dX4_lays_231 (by decide) ?_
              refine v_iload_n dX4_lays_233 rfl rfl ?_
              refine v_iadd dX4_lays_234 ?_
              refine v_iald dX4_lays_235 (mK_all hm) (ix_add (ix_lit _) rfl) (by first | assumption | omega) ?_
              rw [CU_p hcu 243 (by decide)]
              refine v_icmp_lt (tgt := 257) dX4_lays_236 (by decide) (fun b236 => ?_) (fun b236 => ?_)
              · skip
                refine v_iinc dX4_lays_257 rfl (by first | with_reducible exact nI_inc _ | exact rfl) (by decide) ?_
                refine v_goto (tgt := 154) dX4_lays_260 (by decide) ?_
                refine v_loc2 (by repeat' (first | exact trivial | refine And.intro ?_ ?_ | exact rfl)) (IH (k + 1) _ ⟨by omega, _, hcu, ?_, ?_, ?_⟩ (by omega))
                all_goals clear IH IHo
                · (repeat rw [u2_n (by omega)]); exact hF0
                · (repeat rw [u2_n (by omega)]); first | (rw [u2_s, sb_s, if_pos b179]) | (rw [hF5, sb_s, if_neg (fun z => z b179)])
                · first
                  | exact lc_a (by omega) hF1 b197 (fun s => by simp [up_2]) (fun s => by simp [up_2])
                  | exact lc_b (by omega) hF1 (by omega) he0 (fun z => absurd b236 (Int32.not_lt.mpr z)) (fun s => by simp [up_2]) (fun s => by simp [up_2])
                  | exact lc_c (by omega) hF1 (by omega) he0 (Int32.not_lt.mp b236) (fun s => by simp [up_2]) (fun s => by simp [up_2])
              · skip
                refine v_aload_n dX4_lays_239 rfl rfl ?_
                refine v_getR fX4_33 dX4_lays_240 (mK_obj hm) (mR_watched hm) ?_ fcA_I
                refine v_bipush (v := 100) dX4_lays_243 (by decide) ?_
                refine v_iload dX4_lays_245 rfl ?_
                refine v_imul dX4_lays_247 ?_
                refine v_iload_n dX4_lays_248 rfl rfl ?_
                refine v_iadd dX4_lays_249 ?_
                refine v_dup2 dX4_lays_250 rfl rfl ?_
                refine v_iald dX4_lays_251 (mK_watched hm) (ix_add (ix_mul (ix_lit _) rfl) rfl) (by first | assumption | omega) ?_
                rw [CU_r2 hcu]
                (repeat rw [u2_n (by omega)])
                rw [(hF1 s0 (by omega)).2]
                refine v_iconst (v := 1) dX4_lays_252 (by decide) ?_
                refine v_iload_n dX4_lays_253 rfl rfl ?_
                refine v_ishl dX4_lays_254 ?_
                refine v_ior dX4_lays_255 ?_
                rw [or_sh (by omega)]
                refine v_iast dX4_lays_256 (mK_watched hm) (ix_add (ix_mul (ix_lit _) rfl) rfl) (by first | assumption | omega) ?_
                generalize hg256 : up_I _ 247 (100 * s0 + t) (_) = hw256
                have hcu : CU_ h nC sN S t hw256 _ := hg256 ▸ CU_w2 hcu ht
                have hm : MI hw256 := CU_m hcu hm0
                clear hg256
                refine v_iinc dX4_lays_257 rfl (by first | with_reducible exact nI_inc _ | exact rfl) (by decide) ?_
                refine v_goto (tgt := 154) dX4_lays_260 (by decide) ?_
                refine v_loc2 (by repeat' (first | exact trivial | refine And.intro ?_ ?_ | exact rfl)) (IH (k + 1) _ ⟨by omega, _, hcu, ?_, ?_, ?_⟩ (by omega))
                all_goals clear IH IHo
                · (repeat rw [u2_n (by omega)]); exact hF0
                · (repeat rw [u2_n (by omega)]); first | (rw [u2_s, sb_s, if_pos b179]) | (rw [hF5, sb_s, if_neg (fun z => z b179)])
                · first
                  | exact lc_a (by omega) hF1 b197 (fun s => by simp [up_2]) (fun s => by simp [up_2])
                  | exact lc_b (by omega) hF1 (by omega) he0 (fun z => absurd b236 (Int32.not_lt.mpr z)) (fun s => by simp [up_2]) (fun s => by simp [up_2])
                  | exact lc_c (by omega) hF1 (by omega) he0 (Int32.not_lt.mp b236) (fun s => by simp [up_2]) (fun s => by simp [up_2])
            · skip
              refine v_goto (tgt := 257) dX4_lays_200 (by decide) ?_
              refine v_iinc dX4_lays_257 rfl (by first | with_reducible exact nI_inc _ | exact rfl) (by decide) ?_
              refine v_goto (tgt := 154) dX4_lays_260 (by decide) ?_
              refine v_loc2 (by repeat' (first | exact trivial | refine And.intro ?_ ?_ | exact rfl)) (IH (k + 1) _ ⟨by omega, _, hcu, ?_, ?_, ?_⟩ (by omega))
              all_goals clear IH IHo
              · (repeat rw [u2_n (by omega)]); exact hF0
              · (repeat rw [u2_n (by omega)]); first | (rw [u2_s, sb_s, if_pos b179]) | (rw [hF5, sb_s, if_neg (fun z => z b179)])
              · first
                | exact lc_a (by omega) hF1 b197 (fun s => by simp [up_2]) (fun s => by simp [up_2])
                | exact lc_b (by omega) hF1 (by omega) he0 (fun z => absurd b236 (Int32.not_lt.mpr z)) (fun s => by simp [up_2]) (fun s => by simp [up_2])
                | exact lc_c (by omega) hF1 (by omega) he0 (Int32.not_lt.mp b236) (fun s => by simp [up_2]) (fun s => by simp [up_2])
          · skip
            refine v_aload_n dX4_lays_182 rfl rfl ?_
            refine v_getR fX4_42 dX4_lays_183 (mK_obj hm) (mR_ruled hm) ?_ fcA_I
            refine v_iload_n dX4_lays_186 rfl rfl ?_
            refine v_dup2 dX4_lays_187 rfl rfl ?_
            refine v_iald dX4_lays_188 (mK_ruled hm) rfl (by first | assumption | omega) ?_
            rw [CU_r5 hcu, hF5]
            refine v_iconst (v := 1) dX4_lays_189 (by decide) ?_
            refine v_iload_n dX4_lays_190 rfl rfl ?_
            refine v_ishl dX4_lays_191 ?_
            refine v_ior dX4_lays_192 ?_
            rw [or_sh (by omega)]
            refine v_iast dX4_lays_193 (mK_ruled hm) rfl (by first | assumption | omega) ?_
            generalize hg193 : up_I hh 250 (t) (_) = hw193
            have hcu : CU_ h nC sN S t hw193 _ := hg193 ▸ CU_w5 hcu ht
            have hm : MI hw193 := CU_m hcu hm0
            clear hg193
            refine v_iload dX4_lays_194 rfl ?_
            refine v_iconst (v := (-1)) dX4_lays_196 (by decide) ?_
            refine v_icmp_ne (tgt := 203) dX4_lays_197 (by decide) (fun b197 => ?_) (fun b197 => ?_)
            · skip
              obtain ⟨s0, hs0, he0⟩ := (eyes_in (p := k) (S := S) hv hc (by omega) ht).resolve_left b197
              rw [he0]
              refine v_aload_n dX4_lays_203 rfl rfl ?_
              refine v_getR fX4_30 dX4_lays_204 (mK_obj hm) (mR_eyed hm) ?_ fcA_I
              refine v_bipush (v := 100) dX4_lays_207 (by decide) ?_
              refine v_iload dX4_lays_209 rfl ?_
              refine v_imul dX4_lays_211 ?_
              refine v_iload_n dX4_lays_212 rfl rfl ?_
              refine v_iadd dX4_lays_213 ?_
              refine v_dup2 dX4_lays_214 rfl rfl ?_
              refine v_iald dX4_lays_215 (mK_eyed hm) (ix_add (ix_mul (ix_lit _) rfl) rfl) (by first | assumption | omega) ?_
              rw [CU_r1 hcu]
              (try rw [u2_n (by omega)])
              rw [(hF1 s0 (by omega)).1]
              refine v_iconst (v := 1) dX4_lays_216 (by decide) ?_
              refine v_iload_n dX4_lays_217 rfl rfl ?_
              refine v_ishl dX4_lays_218 ?_
              refine v_ior dX4_lays_219 ?_
              rw [or_sh (by omega)]
              refine v_iast dX4_lays_220 (mK_eyed hm) (ix_add (ix_mul (ix_lit _) rfl) rfl) (by first | assumption | omega) ?_
              generalize hg220 : up_I _ 246 (100 * s0 + t) (_) = hw220
              have hcu : CU_ h nC sN S t hw220 _ := hg220 ▸ CU_w1 hcu ht
              have hm : MI hw220 := CU_m hcu hm0
              clear hg220
              refine v_aload_n dX4_lays_221 rfl rfl ?_
              refine v_getR fX4_27 dX4_lays_222 (mK_obj hm) (mR_lit hm) ?_ fcA_I
              refine v_iload_n dX4_lays_225 rfl rfl ?_
              refine v_iald dX4_lays_226 (mK_lit hm) rfl (by first | assumption | omega) ?_
              rw [CU_r0 hcu]
              (repeat rw [u2_n (by omega)])
              rw [hF0]
              refine v_aload_n dX4_lays_227 rfl rfl ?_
              refine v_getR fX4_17 dX4_lays_228 (mK_obj hm) (mR_all hm) ?_ fcA_I
              refine v_bipush (v := 100) dX4_lays_231 (by decide) ?_
              refine v_iload_n dX4_lays_233 rfl rfl ?_
              refine v_iadd dX4_lays_234 ?_
              refine v_iald dX4_lays_235 (mK_all hm) (ix_add (ix_lit _) rfl) (by first | assumption | omega) ?_
              rw [CU_p hcu 243 (by decide)]
              refine v_icmp_lt (tgt := 257) dX4_lays_236 (by decide) (fun b236 => ?_) (fun b236 => ?_)
              · skip
                refine v_iinc dX4_lays_257 rfl (by first | with_reducible exact nI_inc _ | exact rfl) (by decide) ?_
                refine v_goto (tgt := 154) dX4_lays_260 (by decide) ?_
                refine v_loc2 (by repeat' (first | exact trivial | refine And.intro ?_ ?_ | exact rfl)) (IH (k + 1) _ ⟨by omega, _, hcu, ?_, ?_, ?_⟩ (by omega))
                all_goals clear IH IHo
                · (repeat rw [u2_n (by omega)]); exact hF0
                · (repeat rw [u2_n (by omega)]); first | (rw [u2_s, sb_s, if_pos b179]) | (rw [hF5, sb_s, if_neg (fun z => z b179)])
                · first
                  | exact lc_a (by omega) hF1 b197 (fun s => by simp [up_2]) (fun s => by simp [up_2])
                  | exact lc_b (by omega) hF1 (by omega) he0 (fun z => absurd b236 (Int32.not_lt.mpr z)) (fun s => by simp [up_2]) (fun s => by simp [up_2])
                  | exact lc_c (by omega) hF1 (by omega) he0 (Int32.not_lt.mp b236) (fun s => by simp [up_2]) (fun s => by simp [up_2])
              · skip
                refine v_aload_n dX4_lays_239 rfl rfl ?_
                refine v_getR fX4_33 dX4_lays_240 (mK_obj hm) (mR_watched hm) ?_ fcA_I
                refine v_bipush (v := 100) dX4_lays_243 (by decide) ?_
                refine v_iload dX4_lays_245 rfl ?_
                refine v_imul dX4_lays_247 ?_
                refine v_iload_n dX4_lays_248 rfl rfl ?_
                refine v_iadd dX4_lays_249 ?_
                refine v_dup2 dX4_lays_250 rfl rfl ?_
                refine v_iald dX4_lays_251 (mK_watched hm) (ix_add (ix_mul (ix_lit _) rfl) rfl) (by first | assumption | omega) ?_
                rw [CU_r2 hcu]
                (repeat rw [u2_n (by omega)])
                rw [(hF1 s0 (by omega)).2]
                refine v_iconst (v := 1) dX4_lays_252 (by decide) ?_
                refine v_iload_n dX4_lays_253 rfl rfl ?_
                refine v_ishl dX4_lays_254 ?_
                refine v_ior dX4_lays_255 ?_
                rw [or_sh (by omega)]
                refine v_iast dX4_lays_256 (mK_watched hm) (ix_add (ix_mul (ix_lit _) rfl) rfl) (by first | assumption | omega) ?_
                generalize hg256 : up_I _ 247 (100 * s0 + t) (_) = hw256
                have hcu : CU_ h nC sN S t hw256 _ := hg256 ▸ CU_w2 hcu ht
                have hm : MI hw256 := CU_m hcu hm0
                clear hg256
                refine v_iinc dX4_lays_257 rfl (by first | with_reducible exact nI_inc _ | exact rfl) (by decide) ?_
                refine v_goto (tgt := 154) dX4_lays_260 (by decide) ?_
                refine v_loc2 (by repeat' (first | exact trivial | refine And.intro ?_ ?_ | exact rfl)) (IH (k + 1) _ ⟨by omega, _, hcu, ?_, ?_, ?_⟩ (by omega))
                all_goals clear IH IHo
                · (repeat rw [u2_n (by omega)]); exact hF0
                · (repeat rw [u2_n (by omega)]); first | (rw [u2_s, sb_s, if_pos b179]) | (rw [hF5, sb_s, if_neg (fun z => z b179)])
                · first
                  | exact lc_a (by omega) hF1 b197 (fun s => by simp [up_2]) (fun s => by simp [up_2])
                  | exact lc_b (by omega) hF1 (by omega) he0 (fun z => absurd b236 (Int32.not_lt.mpr z)) (fun s => by simp [up_2]) (fun s => by simp [up_2])
                  | exact lc_c (by omega) hF1 (by omega) he0 (Int32.not_lt.mp b236) (fun s => by simp [up_2]) (fun s => by simp [up_2])
            · skip
              refine v_goto (tgt := 257) dX4_lays_200 (by decide) ?_
              refine v_iinc dX4_lays_257 rfl (by first | with_reducible exact nI_inc _ | exact rfl) (by decide) ?_
              refine v_goto (tgt := 154) dX4_lays_260 (by decide) ?_
              refine v_loc2 (by repeat' (first | exact trivial | refine And.intro ?_ ?_ | exact rfl)) (IH (k + 1) _ ⟨by omega, _, hcu, ?_, ?_, ?_⟩ (by omega))
              all_goals clear IH IHo
              · (repeat rw [u2_n (by omega)]); exact hF0
              · (repeat rw [u2_n (by omega)]); first | (rw [u2_s, sb_s, if_pos b179]) | (rw [hF5, sb_s, if_neg (fun z => z b179)])
              · first
                | exact lc_a (by omega) hF1 b197 (fun s => by simp [up_2]) (fun s => by simp [up_2])
                | exact lc_b (by omega) hF1 (by omega) he0 (fun z => absurd b236 (Int32.not_lt.mpr z)) (fun s => by simp [up_2]) (fun s => by simp [up_2])
                | exact lc_c (by omega) hF1 (by omega) he0 (Int32.not_lt.mp b236) (fun s => by simp [up_2]) (fun s => by simp [up_2])
      · skip
        rw [nI_ltI (by omega) (by omega)] at b119
        have hk : k ≤ sN := by omega
        refine v_aload_n dX4_lays_122 rfl rfl ?_
        refine v_getR fX4_30 dX4_lays_123 (mK_obj hm) (mR_eyed hm) ?_ fcA_I
        refine v_bipush (v := 100) dX4_lays_126 (by decide) ?_
        refine v_iload_n dX4_lays_128 rfl rfl ?_
        refine v_imul dX4_lays_129 ?_
        refine v_iload_n dX4_lays_130 rfl rfl ?_
        refine v_iadd dX4_lays_131 ?_
        refine v_iconst (v := 0) dX4_lays_132 (by decide) ?_
        refine v_iast dX4_lays_133 (mK_eyed hm) (ix_add (ix_mul (ix_lit _) rfl) rfl) (by first | assumption | omega) ?_
        generalize hg133 : up_I hh 246 (100 * k + t) (0) = hw133
        have hcu : CU_ h nC sN S t hw133 _ := hg133 ▸ CU_w1 hcu ht
        have hm : MI hw133 := CU_m hcu hm0
        clear hg133
        refine v_aload_n dX4_lays_134 rfl rfl ?_
        refine v_getR fX4_33 dX4_lays_135 (mK_obj hm) (mR_watched hm) ?_ fcA_I
        refine v_bipush (v := 100) dX4_lays_138 (by decide) ?_
        refine v_iload_n dX4_lays_140 rfl rfl ?_
        refine v_imul dX4_lays_141 ?_
        refine v_iload_n dX4_lays_142 rfl rfl ?_
        refine v_iadd dX4_lays_143 ?_
        refine v_iconst (v := 0) dX4_lays_144 (by decide) ?_
        refine v_iast dX4_lays_145 (mK_watched hm) (ix_add (ix_mul (ix_lit _) rfl) rfl) (by first | assumption | omega) ?_
        generalize hg145 : up_I hw133 247 (100 * k + t) (0) = hw145
        have hcu : CU_ h nC sN S t hw145 _ := hg145 ▸ CU_w2 hcu ht
        have hm : MI hw145 := CU_m hcu hm0
        clear hg145
        refine v_iinc dX4_lays_146 rfl (by first | with_reducible exact nI_inc _ | exact rfl) (by decide) ?_
        refine v_goto (tgt := 114) dX4_lays_149 (by decide) ?_
        refine v_loc2 (by repeat' (first | exact trivial | refine And.intro ?_ ?_ | exact rfl)) (IH (k + 1) _ ⟨by omega, _, hcu, ?_, ?_, fun s hs9 => ?_⟩ (by omega))
        · rw [u2_n (by omega), u2_n (by omega)]; exact hF0
        · rw [u2_n (by omega), u2_n (by omega)]; exact hF5
        · by_cases e9 : s = k
          · subst e9; exact ⟨by rw [u2_n (by omega), u2_s], by rw [u2_s]⟩
          · exact ⟨by rw [u2_n (by omega), u2_n (by omega)]; exact (hF1 s (by omega)).1, by rw [u2_n (by omega), u2_n (by omega)]; exact (hF1 s (by omega)).2⟩
    · skip
      rw [nI_leI (by omega) (by omega)] at b36
      have hk : k < nC := by omega
      refine v_iload_n dX4_lays_39 rfl rfl ?_
      refine v_iload_n dX4_lays_40 rfl rfl ?_
      refine v_pS mtX4_has q1859 q1860 dX4_lays_41 (c_X4_has _ _) (by decide) ?_
      refine v_if_eq (tgt := 106) dX4_lays_44 (by decide) (fun b44 => ?_) (fun b44 => ?_)
      · skip
        refine v_iinc dX4_lays_106 rfl (by first | with_reducible exact nI_inc _ | exact rfl) (by decide) ?_
        refine v_goto (tgt := 31) dX4_lays_109 (by decide) ?_
        refine v_loc2 (by repeat' (first | exact trivial | refine And.intro ?_ ?_ | exact rfl)) (IH (k + 1) _ ⟨by omega, _, hcu, ?_, ?_⟩ (by omega))
        · clear IH IHo
          (try simp only [b2i_0, b2i_n0] at *)
          first | (rw [u2_s, li_s]; exact (if_pos (by grind)).symm) | (rw [hF0, li_s]; exact (if_neg (by grind)).symm)
        · first | exact hF5 | (rw [u2_n (by decide)]; exact hF5)
      · skip
        refine v_aload_n dX4_lays_47 rfl rfl ?_
        refine v_getR fX4_85 dX4_lays_48 (mK_obj hm) (mR_controlKind hm) ?_ fcA_I
        refine v_iload_n dX4_lays_51 rfl rfl ?_
        refine v_iald dX4_lays_52 (mK_controlKind hm) rfl (by first | assumption | omega) ?_
        rw [CU_p hcu 263 (by decide)]
        refine v_iconst (v := nI 1) dX4_lays_53 (by decide) ?_
        refine v_icmp_ne (tgt := 106) dX4_lays_54 (by decide) (fun b54 => ?_) (fun b54 => ?_)
        · skip
          refine v_iinc dX4_lays_106 rfl (by first | with_reducible exact nI_inc _ | exact rfl) (by decide) ?_
          refine v_goto (tgt := 31) dX4_lays_109 (by decide) ?_
          refine v_loc2 (by repeat' (first | exact trivial | refine And.intro ?_ ?_ | exact rfl)) (IH (k + 1) _ ⟨by omega, _, hcu, ?_, ?_⟩ (by omega))
          · clear IH IHo
            (try simp only [b2i_0, b2i_n0] at *)
            first | (rw [u2_s, li_s]; exact (if_pos (by grind)).symm) | (rw [hF0, li_s]; exact (if_neg (by grind)).symm)
          · first | exact hF5 | (rw [u2_n (by decide)]; exact hF5)
        · skip
          refine v_iload_n dX4_lays_57 rfl rfl ?_
          refine v_i2l dX4_lays_58 ?_
          refine v_aload_n dX4_lays_59 rfl rfl ?_
          refine v_getR fX4_94 dX4_lays_60 (mK_obj hm) (mR_controlFrom hm) ?_ fcA_I
          refine v_iload_n dX4_lays_63 rfl rfl ?_
          refine v_iald dX4_lays_64 (mK_controlFrom hm) rfl (by first | assumption | omega) ?_
          rw [CU_p hcu 266 (by decide)]
          refine v_i2l dX4_lays_65 ?_
          refine v_aload_n dX4_lays_66 rfl rfl ?_
          refine v_getR fX4_97 dX4_lays_67 (mK_obj hm) (mR_controlTo hm) ?_ fcA_I
          refine v_iload_n dX4_lays_70 rfl rfl ?_
          refine v_iald dX4_lays_71 (mK_controlTo hm) rfl (by first | assumption | omega) ?_
          rw [CU_p hcu 267 (by decide)]
          refine v_i2l dX4_lays_72 ?_
          refine v_pS mtX4_within q1790 q1791 dX4_lays_73 (c_X4_within _ _ _) (by decide) ?_
          refine v_if_eq (tgt := 106) dX4_lays_76 (by decide) (fun b76 => ?_) (fun b76 => ?_)
          · skip
            refine v_iinc dX4_lays_106 rfl (by first | with_reducible exact nI_inc _ | exact rfl) (by decide) ?_
            refine v_goto (tgt := 31) dX4_lays_109 (by decide) ?_
            refine v_loc2 (by repeat' (first | exact trivial | refine And.intro ?_ ?_ | exact rfl)) (IH (k + 1) _ ⟨by omega, _, hcu, ?_, ?_⟩ (by omega))
            · clear IH IHo
              (try simp only [b2i_0, b2i_n0] at *)
              first | (rw [u2_s, li_s]; exact (if_pos (by grind)).symm) | (rw [hF0, li_s]; exact (if_neg (by grind)).symm)
            · first | exact hF5 | (rw [u2_n (by decide)]; exact hF5)
          · skip
            refine v_aload_n dX4_lays_79 rfl rfl ?_
            refine v_getR fX4_91 dX4_lays_80 (mK_obj hm) (mR_controlV hm) ?_ fcA_I
            refine v_iload_n dX4_lays_83 rfl rfl ?_
            refine v_iald dX4_lays_84 (mK_controlV hm) rfl (by first | assumption | omega) ?_
            rw [CU_p hcu 265 (by decide)]
            refine v_aload_n dX4_lays_85 rfl rfl ?_
            refine v_getR fX4_27 dX4_lays_86 (mK_obj hm) (mR_lit hm) ?_ fcA_I
            refine v_iload_n dX4_lays_89 rfl rfl ?_
            refine v_iald dX4_lays_90 (mK_lit hm) rfl (by first | assumption | omega) ?_
            rw [CU_r0 hcu, hF0]
            refine v_icmp_le (tgt := 106) dX4_lays_91 (by decide) (fun b91 => ?_) (fun b91 => ?_)
            · skip
              refine v_iinc dX4_lays_106 rfl (by first | with_reducible exact nI_inc _ | exact rfl) (by decide) ?_
              refine v_goto (tgt := 31) dX4_lays_109 (by decide) ?_
              refine v_loc2 (by repeat' (first | exact trivial | refine And.intro ?_ ?_ | exact rfl)) (IH (k + 1) _ ⟨by omega, _, hcu, ?_, ?_⟩ (by omega))
              · clear IH IHo
                (try simp only [b2i_0, b2i_n0] at *)
                first | (rw [u2_s, li_s]; exact (if_pos (by grind)).symm) | (rw [hF0, li_s]; exact (if_neg (by grind)).symm)
              · first | exact hF5 | (rw [u2_n (by decide)]; exact hF5)
            · skip
              refine v_aload_n dX4_lays_94 rfl rfl ?_
              refine v_getR fX4_27 dX4_lays_95 (mK_obj hm) (mR_lit hm) ?_ fcA_I
              refine v_iload_n dX4_lays_98 rfl rfl ?_
              refine v_aload_n dX4_lays_99 rfl rfl ?_
              refine v_getR fX4_91 dX4_lays_100 (mK_obj hm) (mR_controlV hm) ?_ fcA_I
              refine v_iload_n dX4_lays_103 rfl rfl ?_
              refine v_iald dX4_lays_104 (mK_controlV hm) rfl (by first | assumption | omega) ?_
              rw [CU_p hcu 265 (by decide)]
              refine v_iast dX4_lays_105 (mK_lit hm) rfl (by first | assumption | omega) ?_
              generalize hg105 : up_I hh 245 (t) (_) = hw105
              have hcu : CU_ h nC sN S t hw105 _ := hg105 ▸ CU_w0 hcu ht
              have hm : MI hw105 := CU_m hcu hm0
              clear hg105
              refine v_iinc dX4_lays_106 rfl (by first | with_reducible exact nI_inc _ | exact rfl) (by decide) ?_
              refine v_goto (tgt := 31) dX4_lays_109 (by decide) ?_
              refine v_loc2 (by repeat' (first | exact trivial | refine And.intro ?_ ?_ | exact rfl)) (IH (k + 1) _ ⟨by omega, _, hcu, ?_, ?_⟩ (by omega))
              · clear IH IHo
                (try simp only [b2i_0, b2i_n0] at *)
                first | (rw [u2_s, li_s]; exact (if_pos (by grind)).symm) | (rw [hF0, li_s]; exact (if_neg (by grind)).symm)
              · first | exact hF5 | (rw [u2_n (by decide)]; exact hF5)

