set_option maxRecDepth 100000
/-! what is so in a second: light, sets of persons, free hands; a column of the reference's eight arrays -/
/-- light in second t under the first n controls -/
def li_ (A : Nat → Int32) (C : Nat → Nat → Int32) (S : Int32) (t : Nat) : Nat → Int32
  | 0 => A t
  | n + 1 => if ((S >>> (nI n &&& 31)) &&& 1 = 1 ∧ C 0 n = 1 ∧ C 3 n ≤ nI t ∧ nI t ≤ C 4 n) ∧ li_ A C S t n < C 2 n then C 2 n else li_ A C S t n
theorem li_s (A : Nat → Int32) (C : Nat → Nat → Int32) (S : Int32) (t n : Nat) : li_ A C S t (n + 1) = if ((S >>> (nI n &&& 31)) &&& 1 = 1 ∧ C 0 n = 1 ∧ C 3 n ≤ nI t ∧ nI t ≤ C 4 n) ∧ li_ A C S t n < C 2 n then C 2 n else li_ A C S t n := rfl
/-- a set of the numbers below n -/
def sb_ (P : Nat → Prop) [DecidablePred P] : Nat → Nat
  | 0 => 0
  | n + 1 => if P n then sb_ P n ||| 2 ^ n else sb_ P n
theorem sb_s (P : Nat → Prop) [DecidablePred P] (n : Nat) : sb_ P (n + 1) = if P n then sb_ P n ||| 2 ^ n else sb_ P n := rfl
theorem sb_lt (P : Nat → Prop) [DecidablePred P] : ∀ n, sb_ P n < 2 ^ n
  | 0 => Nat.zero_lt_one
  | n + 1 => by
    have h := sb_lt P n
    rw [sb_s]
    have h2 : 2 ^ n < 2 ^ (n + 1) := Nat.pow_lt_pow_right (by decide) (by omega)
    split
    · exact Nat.or_lt_two_pow (Nat.lt_trans h h2) h2
    · exact Nat.lt_trans h h2
theorem sb_bit (P : Nat → Prop) [DecidablePred P] (k : Nat) : ∀ n, (sb_ P n).testBit k = decide (k < n ∧ P k)
  | 0 => by simp [sb_]
  | n + 1 => by
    rw [sb_s]
    by_cases z : P n
    · rw [if_pos z, Nat.testBit_or, sb_bit P k n, Nat.testBit_two_pow]
      by_cases e : n = k
      · subst e; simp [z]
      · rw [show decide (k < n + 1 ∧ P k) = decide (k < n ∧ P k) from decide_eq_decide.mpr ⟨fun y => ⟨by omega, y.2⟩, fun y => ⟨by omega, y.2⟩⟩]; simp [e]
    · rw [if_neg z, sb_bit P k n]
      by_cases e : n = k
      · subst e; simp [z]
      · exact decide_eq_decide.mpr ⟨fun y => ⟨by omega, y.2⟩, fun y => ⟨by omega, y.2⟩⟩
theorem sb_c {P R : Nat → Prop} [DecidablePred P] [DecidablePred R] {n : Nat} (h : ∀ k, k < n → (P k ↔ R k)) : sb_ P n = sb_ R n := by
  refine Nat.eq_of_testBit_eq fun k => ?_
  rw [sb_bit, sb_bit]
  by_cases z : k < n
  · simp [z, h k z]
  · simp [z]
/-- persons that hold hand a, of the first n hands -/
def hb_ (A : Nat → Int32) (t a : Nat) : Nat → Nat
  | 0 => 0
  | n + 1 => if A (2870 + 100 * n + t) = nI a then hb_ A t a n ||| 2 ^ (n / 2) else hb_ A t a n
theorem hb_s (A : Nat → Int32) (t a n : Nat) : hb_ A t a (n + 1) = if A (2870 + 100 * n + t) = nI a then hb_ A t a n ||| 2 ^ (n / 2) else hb_ A t a n := rfl
theorem hb_lt (A : Nat → Int32) (t a : Nat) : ∀ n, n ≤ 18 → hb_ A t a n < 2 ^ 9
  | 0, _ => (by show 0 < 512; omega)
  | n + 1, hn => by
    rw [hb_s]
    split
    · exact Nat.or_lt_two_pow (hb_lt A t a n (by omega)) (Nat.pow_lt_pow_right (by decide) (by omega))
    · exact hb_lt A t a n (by omega)
theorem hb_bit (A : Nat → Int32) (t a k : Nat) : ∀ n, (hb_ A t a n).testBit k = true ↔ ∃ j, j < n ∧ j / 2 = k ∧ A (2870 + 100 * j + t) = nI a
  | 0 => by simp [hb_]
  | n + 1 => by
    rw [hb_s]
    split
    · next z =>
      rw [Nat.testBit_or, Bool.or_eq_true, hb_bit A t a k n, Nat.testBit_two_pow, decide_eq_true_eq]
      constructor
      · rintro (⟨j, h1, h2⟩ | h)
        · exact ⟨j, by omega, h2⟩
        · exact ⟨n, by omega, h, z⟩
      · rintro ⟨j, h1, h2, h3⟩
        by_cases e : j = n
        · subst e; exact Or.inr h2
        · exact Or.inl ⟨j, by omega, h2, h3⟩
    · next z =>
      rw [hb_bit A t a k n]
      constructor
      · rintro ⟨j, h1, h2⟩
        exact ⟨j, by omega, h2⟩
      · rintro ⟨j, h1, h2, h3⟩
        by_cases e : j = n
        · subst e; exact absurd h3 z
        · exact ⟨j, by omega, h2, h3⟩
/-- a control ties a hand in a second -/
def tie_ (C : Nat → Nat → Int32) (S : Int32) (a t c : Nat) : Prop := (S >>> (nI c &&& 31)) &&& 1 = 1 ∧ C 0 c = 0 ∧ C 1 c = nI a ∧ C 3 c ≤ nI t ∧ nI t ≤ C 4 c
def tied_ (C : Nat → Nat → Int32) (nC : Nat) (S : Int32) (a t : Nat) : Prop := ∃ c, c < nC ∧ (S >>> (nI c &&& 31)) &&& 1 = 1 ∧ C 0 c = 0 ∧ C 1 c = nI a ∧ C 3 c ≤ nI t ∧ nI t ≤ C 4 c
def free_ (A : Nat → Int32) (C : Nat → Nat → Int32) (nC sN : Nat) (S : Int32) (a t : Nat) : Prop := A (2870 + 100 * a + t) = -1 ∧ (∀ k, k < 2 * sN → ¬ A (2870 + 100 * k + t) = nI a) ∧ ¬ tied_ C nC S a t
def cl_ok (C : Nat → Nat → Int32) (nC sN : Nat) : Prop := nC ≤ 8 ∧ ∀ c, c < nC → ((C 0 c = 0 ∧ in_ (C 1 c) (2 * sN)) ∨ (C 0 c = 1 ∧ in_ (C 2 c) 10) ∨ (C 0 c = 2 ∧ in_ (C 1 c) sN ∧ in_ (C 2 c) (sN + 1))) ∧ in_ (C 3 c) 100 ∧ in_ (C 4 c) 100 ∧ ∃ k, k ≤ 1000 ∧ 1 ≤ k ∧ C 5 c = nI k
theorem eyes_in {A : Nat → Int32} {C : Nat → Nat → Int32} {nC sN p t : Nat} {S : Int32} (hv : sv_ok A sN) (hc : cl_ok C nC sN) (hp : p < 9) (ht : t < 100) : eyes_ A C nC S p t = -1 ∨ in_ (eyes_ A C nC S p t) (sN + 1) := by
  unfold eyes_
  split
  · split
    · exact sv_eyes hv hp ht
    · next z =>
      obtain ⟨k, hk, hk2⟩ := (lb_c A p t (nLed A)).resolve_left z
      have hl := (sv_led hv).1
      rw [hk2, nI_clamp (by omega)]
      exact Or.inr (sv_lead hv hk).1
  · next z =>
    obtain ⟨k, hk, hk2, hk3⟩ := (rul_c C S p t nC).resolve_left z
    have h8 := hc.1
    rw [hk2, nI_clamp (by omega)]
    rcases (hc.2 k hk).1 with ⟨e, -⟩ | ⟨e, -⟩ | ⟨-, -, e⟩
    · rw [hk3] at e; exact absurd e (by decide)
    · rw [hk3] at e; exact absurd e (by decide)
    · exact Or.inr e
theorem or_sh {a p : Nat} (hp : p < 31) : nI a ||| ((1 : Int32) <<< (nI p &&& 31)) = nI (a ||| 2 ^ p) := by
  have e : (1 : Int32) <<< (nI p &&& 31) = nI (2 ^ p) := by
    have h : ∀ q, q < 31 → (1 : Int32) <<< (nI q &&& 31) = nI (2 ^ q) := by decide +kernel
    exact h p hp
  rw [e]
  apply Int32.toBitVec_inj.mp
  show BitVec.ofNat 32 a ||| BitVec.ofNat 32 (2 ^ p) = BitVec.ofNat 32 (a ||| 2 ^ p)
  exact (BitVec.ofNat_or ..).symm
theorem sh_1 {p : Nat} (hp : p < 31) : (1 : Int32) <<< (nI p &&& 31) = nI (2 ^ p) := by
  have h : ∀ q, q < 31 → (1 : Int32) <<< (nI q &&& 31) = nI (2 ^ q) := by decide +kernel
  exact h p hp
theorem nI_or (a b : Nat) : nI a ||| nI b = nI (a ||| b) := by
  apply Int32.toBitVec_inj.mp
  show BitVec.ofNat 32 a ||| BitVec.ofNat 32 b = BitVec.ofNat 32 (a ||| b)
  exact (BitVec.ofNat_or ..).symm
theorem nI_and (a b : Nat) : nI a &&& nI b = nI (a &&& b) := by
  apply Int32.toBitVec_inj.mp
  show BitVec.ofNat 32 a &&& BitVec.ofNat 32 b = BitVec.ofNat 32 (a &&& b)
  exact (BitVec.ofNat_and ..).symm
