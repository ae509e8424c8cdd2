set_option maxRecDepth 100000
def b2i (P : Prop) [Decidable P] : Int32 := if P then 1 else 0
theorem b2i_t {P : Prop} [Decidable P] (h : P) : b2i P = 1 := if_pos h
theorem b2i_f {P : Prop} [Decidable P] (h : ¬ P) : b2i P = 0 := if_neg h
theorem b2i_0 {P : Prop} [Decidable P] : b2i P = 0 ↔ ¬ P := by
  by_cases h : P
  · rw [b2i_t h]; exact ⟨fun z => absurd z (by decide), fun z => absurd h z⟩
  · rw [b2i_f h]; exact ⟨fun _ => h, fun _ => rfl⟩
theorem b2i_n0 {P : Prop} [Decidable P] : ¬ b2i P = 0 ↔ P := by rw [b2i_0]; exact Decidable.not_not
theorem b2i_1 {P : Prop} [Decidable P] : b2i P = 1 ↔ P := by
  by_cases h : P
  · rw [b2i_t h]; exact ⟨fun _ => h, fun _ => rfl⟩
  · rw [b2i_f h]; exact ⟨fun z => absurd z (by decide), fun z => absurd z h⟩
theorem b2i_01 {P : Prop} [Decidable P] : b2i P = 0 ∨ b2i P = 1 := by
  by_cases h : P
  · exact Or.inr (b2i_t h)
  · exact Or.inl (b2i_f h)
theorem b2i_c {P R : Prop} [Decidable P] [Decidable R] (h : P ↔ R) : b2i P = b2i R := by
  by_cases z : P
  · rw [b2i_t z, b2i_t (h.mp z)]
  · rw [b2i_f z, b2i_f (fun y => z (h.mpr y))]
theorem rt_z {P : Prop} [Decidable P] : rt_ok (some .boolean) (some (.int (b2i P))) := by
  rcases b2i_01 (P := P) with h | h <;> rw [h] <;> rfl
theorem rt_z01 {x : Int32} (h : x = 0 ∨ x = 1) : rt_ok (some .boolean) (some (.int x)) := by rcases h with rfl | rfl <;> rfl
/-- the answer, and the heap as it was -/
def Pu (h : AH) (v : Value) : Option Value → AH → Prop := fun r h1 => r = some v ∧ h1 = h
theorem Pu_i {h : AH} {x y : Int32} (e : x = y) : Pu h (.int y) (some (.int x)) h := ⟨by rw [e], rfl⟩
theorem Pu_l {h : AH} {x y : Int64} (e : x = y) : Pu h (.long y) (some (.long x)) h := ⟨by rw [e], rfl⟩
theorem Pu_r {h : AH} {x : Value} : Pu h x (some x) h := ⟨rfl, rfl⟩
theorem nI_inc (k : Nat) : nI k + Int32.ofInt 1 = nI (k + 1) := nI_1 k
theorem ix_add {a b : Int32} {m n : Nat} (h1 : a = nI m) (h2 : b = nI n) : a + b = nI (m + n) := by subst h1; subst h2; exact nI_add m n
theorem ix_mul {a b : Int32} {m n : Nat} (h1 : a = nI m) (h2 : b = nI n) : a * b = nI (m * n) := by subst h1; subst h2; exact pk_mul m n
theorem ix_sub {a b : Int32} {m n : Nat} (h1 : a = nI m) (h2 : b = nI n) (h : n ≤ m) : a - b = nI (m - n) := by subst h1; subst h2; exact pk_sub h
theorem ix_div {a b : Int32} {m n : Nat} (h1 : a = nI m) (h2 : b = nI n) (hm : m < 2 ^ 31) (h0 : 0 < n) (hn : n < 2 ^ 31) : a / b = nI (m / n) := by subst h1; subst h2; exact pk_div hm h0 hn
section LOOPS
variable {G : Gv} {d : Nat} {own nm : String} {cc : ByteArray} {nL : Nat} {ret : Option FieldType} {mc ms : Nat} {Q : Option Value → AH → Prop} {pc : Nat} {l : List (Nat × Value)} {st : List Value} {h : AH}
/-- a loop: states told by A; a measure falls -/
theorem v_lp1 {A : Type} (μ : A → Nat) (I : A → Prop) (L : A → List (Nat × Value)) (S : A → List Value) (Hh : A → AH) (hs : ∀ a, I a → (∀ a', I a' → μ a' < μ a → Vv G d own nm cc nL ret mc ms Q pc (L a') (S a') (Hh a')) → Vv G d own nm cc nL ret mc ms Q pc (L a) (S a) (Hh a)) (a : A) (h0 : I a) : Vv G d own nm cc nL ret mc ms Q pc (L a) (S a) (Hh a) := by
  have key : ∀ (n : Nat) (a : A), μ a < n → I a → Vv G d own nm cc nL ret mc ms Q pc (L a) (S a) (Hh a) := by
    intro n
    induction n with
    | zero => intro a ha; omega
    | succ n ih => intro a ha hI; exact hs a hI (fun a' hI' hm => ih a' (by omega) hI')
  exact key (μ a + 1) a (by omega) h0
theorem v_lp2 {A B : Type} (μ : A → B → Nat) (I : A → B → Prop) (L : A → B → List (Nat × Value)) (Hh : A → B → AH) (hs : ∀ a b, I a b → (∀ a' b', I a' b' → μ a' b' < μ a b → Vv G d own nm cc nL ret mc ms Q pc (L a' b') st (Hh a' b')) → Vv G d own nm cc nL ret mc ms Q pc (L a b) st (Hh a b)) (a : A) (b : B) (h0 : I a b) : Vv G d own nm cc nL ret mc ms Q pc (L a b) st (Hh a b) :=
  v_lp1 (A := A × B) (fun x => μ x.1 x.2) (fun x => I x.1 x.2) (fun x => L x.1 x.2) (fun _ => st) (fun x => Hh x.1 x.2) (fun x hI ih => hs x.1 x.2 hI (fun a' b' hI' hm => ih (a', b') hI' hm)) (a, b) h0
theorem v_lp3 {A B C : Type} (μ : A → B → C → Nat) (I : A → B → C → Prop) (L : A → B → C → List (Nat × Value)) (Hh : A → B → C → AH) (hs : ∀ a b c, I a b c → (∀ a' b' c', I a' b' c' → μ a' b' c' < μ a b c → Vv G d own nm cc nL ret mc ms Q pc (L a' b' c') st (Hh a' b' c')) → Vv G d own nm cc nL ret mc ms Q pc (L a b c) st (Hh a b c)) (a : A) (b : B) (c : C) (h0 : I a b c) : Vv G d own nm cc nL ret mc ms Q pc (L a b c) st (Hh a b c) :=
  v_lp1 (A := A × B × C) (fun x => μ x.1 x.2.1 x.2.2) (fun x => I x.1 x.2.1 x.2.2) (fun x => L x.1 x.2.1 x.2.2) (fun _ => st) (fun x => Hh x.1 x.2.1 x.2.2) (fun x hI ih => hs x.1 x.2.1 x.2.2 hI (fun a' b' c' hI' hm => ih (a', b', c') hI' hm)) (a, b, c) h0
/-- a join: an int on the stack, at pcJ -/
theorem v_join (pcJ : Nat) (φ : Int32 → Prop) (hj : ∀ z, φ z → Vv G d own nm cc nL ret mc ms Q pcJ l (.int z :: st) h) (hk : (∀ z, φ z → Vv G d own nm cc nL ret mc ms Q pcJ l (.int z :: st) h) → Vv G d own nm cc nL ret mc ms Q pc l st h) : Vv G d own nm cc nL ret mc ms Q pc l st h := hk hj
section CW
variable {idx n dc nLy : Nat} {y : MethodName} {cy : ByteArray} {rety : Option FieldType} {As stk : List Value} {Qy : Option Value → AH → Prop} {v : Value}

theorem v_zV {b ci N : Nat} {T : u_T} (hm : mt_ y cy nLy rety n) (hln : Cond.methodLink own idx y ∈ lw_all) (hin : Cond.instanceMethod y ∈ lw_all) (hsel : Cond.selects y.cls y y ∈ lw_all) (hcl : clA[ci]? = some (y.cls, T, N)) (hci : ci < 100) (hdg : decode cc pc = .ok (.invokevirtual idx, 3)) (hc : Ctr G dc y cy nLy rety (.ref b :: As) h 0 0 Qy) (hK : hp_K h b = (ci, 0)) (hd : dc + 1 ≤ d) (kk : ∀ r h1, Qy r h1 → rt_ok rety r → Vv G d own nm cc nL ret mc ms Q (pc + 3) l (r.toList ++ st) h1) (hst : stk = As.reverse ++ .ref b :: st := by rfl) (hn : As.length = n := by rfl) (hcat : (st.map fun v => v.category).sum ≤ 8 := by exact Nat.le_of_ble_eq_true rfl) : Vv G d own nm cc nL ret mc ms Q pc l stk h := v_less (Nat.le_of_eq (Nat.zero_add mc)) (Nat.le_of_eq (Nat.zero_add ms)) (v_callV hm hln hin hsel hcl hci hdg hc hK hd kk hst hn hcat)
theorem v_pV {b ci N : Nat} {T : u_T} (hm : mt_ y cy nLy rety n) (hln : Cond.methodLink own idx y ∈ lw_all) (hin : Cond.instanceMethod y ∈ lw_all) (hsel : Cond.selects y.cls y y ∈ lw_all) (hcl : clA[ci]? = some (y.cls, T, N)) (hci : ci < 100) (hdg : decode cc pc = .ok (.invokevirtual idx, 3)) (hc : Ctr G dc y cy nLy rety (.ref b :: As) h 0 0 (Pu h v)) (hK : hp_K h b = (ci, 0)) (hd : dc + 1 ≤ d) (kk : Vv G d own nm cc nL ret mc ms Q (pc + 3) l (v :: st) h) (hst : stk = As.reverse ++ .ref b :: st := by rfl) (hn : As.length = n := by rfl) (hcat : (st.map fun v => v.category).sum ≤ 8 := by exact Nat.le_of_ble_eq_true rfl) : Vv G d own nm cc nL ret mc ms Q pc l stk h := v_zV hm hln hin hsel hcl hci hdg hc hK hd (fun r h1 q _ => by obtain ⟨rfl, rfl⟩ := q; exact kk) hst hn hcat
theorem v_cV {mcc msc mc2 ms2 : Nat} {b ci N : Nat} {T : u_T} (hm : mt_ y cy nLy rety n) (hln : Cond.methodLink own idx y ∈ lw_all) (hin : Cond.instanceMethod y ∈ lw_all) (hsel : Cond.selects y.cls y y ∈ lw_all) (hcl : clA[ci]? = some (y.cls, T, N)) (hci : ci < 100) (hdg : decode cc pc = .ok (.invokevirtual idx, 3)) (hc : Ctr G dc y cy nLy rety (.ref b :: As) h mcc msc Qy) (hK : hp_K h b = (ci, 0)) (hd : dc + 1 ≤ d) (hb1 : mcc + mc2 ≤ mc) (hb2 : msc + ms2 ≤ ms) (kk : ∀ r h1, Qy r h1 → rt_ok rety r → Vv G d own nm cc nL ret mc2 ms2 Q (pc + 3) l (r.toList ++ st) h1) (hst : stk = As.reverse ++ .ref b :: st := by rfl) (hn : As.length = n := by rfl) (hcat : (st.map fun v => v.category).sum ≤ 8 := by exact Nat.le_of_ble_eq_true rfl) : Vv G d own nm cc nL ret mc ms Q pc l stk h := v_less hb1 hb2 (v_callV hm hln hin hsel hcl hci hdg hc hK hd kk hst hn hcat)
theorem v_zVN {b ci N : Nat} {T : u_T} {host : String} (hm : mt_ y cy nLy rety n) (hln : Cond.methodLinkNest own idx y host ∈ nw_all) (hin : Cond.instanceMethod y ∈ lw_all) (hsel : Cond.selects y.cls y y ∈ lw_all) (hcl : clA[ci]? = some (y.cls, T, N)) (hci : ci < 100) (hdg : decode cc pc = .ok (.invokevirtual idx, 3)) (hc : Ctr G dc y cy nLy rety (.ref b :: As) h 0 0 Qy) (hK : hp_K h b = (ci, 0)) (hd : dc + 1 ≤ d) (kk : ∀ r h1, Qy r h1 → rt_ok rety r → Vv G d own nm cc nL ret mc ms Q (pc + 3) l (r.toList ++ st) h1) (hst : stk = As.reverse ++ .ref b :: st := by rfl) (hn : As.length = n := by rfl) (hcat : (st.map fun v => v.category).sum ≤ 8 := by exact Nat.le_of_ble_eq_true rfl) : Vv G d own nm cc nL ret mc ms Q pc l stk h := v_less (Nat.le_of_eq (Nat.zero_add mc)) (Nat.le_of_eq (Nat.zero_add ms)) (v_callVN hm hln hin hsel hcl hci hdg hc hK hd kk hst hn hcat)
theorem v_pVN {b ci N : Nat} {T : u_T} {host : String} (hm : mt_ y cy nLy rety n) (hln : Cond.methodLinkNest own idx y host ∈ nw_all) (hin : Cond.instanceMethod y ∈ lw_all) (hsel : Cond.selects y.cls y y ∈ lw_all) (hcl : clA[ci]? = some (y.cls, T, N)) (hci : ci < 100) (hdg : decode cc pc = .ok (.invokevirtual idx, 3)) (hc : Ctr G dc y cy nLy rety (.ref b :: As) h 0 0 (Pu h v)) (hK : hp_K h b = (ci, 0)) (hd : dc + 1 ≤ d) (kk : Vv G d own nm cc nL ret mc ms Q (pc + 3) l (v :: st) h) (hst : stk = As.reverse ++ .ref b :: st := by rfl) (hn : As.length = n := by rfl) (hcat : (st.map fun v => v.category).sum ≤ 8 := by exact Nat.le_of_ble_eq_true rfl) : Vv G d own nm cc nL ret mc ms Q pc l stk h := v_zVN hm hln hin hsel hcl hci hdg hc hK hd (fun r h1 q _ => by obtain ⟨rfl, rfl⟩ := q; exact kk) hst hn hcat
theorem v_cVN {mcc msc mc2 ms2 : Nat} {b ci N : Nat} {T : u_T} {host : String} (hm : mt_ y cy nLy rety n) (hln : Cond.methodLinkNest own idx y host ∈ nw_all) (hin : Cond.instanceMethod y ∈ lw_all) (hsel : Cond.selects y.cls y y ∈ lw_all) (hcl : clA[ci]? = some (y.cls, T, N)) (hci : ci < 100) (hdg : decode cc pc = .ok (.invokevirtual idx, 3)) (hc : Ctr G dc y cy nLy rety (.ref b :: As) h mcc msc Qy) (hK : hp_K h b = (ci, 0)) (hd : dc + 1 ≤ d) (hb1 : mcc + mc2 ≤ mc) (hb2 : msc + ms2 ≤ ms) (kk : ∀ r h1, Qy r h1 → rt_ok rety r → Vv G d own nm cc nL ret mc2 ms2 Q (pc + 3) l (r.toList ++ st) h1) (hst : stk = As.reverse ++ .ref b :: st := by rfl) (hn : As.length = n := by rfl) (hcat : (st.map fun v => v.category).sum ≤ 8 := by exact Nat.le_of_ble_eq_true rfl) : Vv G d own nm cc nL ret mc ms Q pc l stk h := v_less hb1 hb2 (v_callVN hm hln hin hsel hcl hci hdg hc hK hd kk hst hn hcat)
theorem v_zS (hm : mt_ y cy nLy rety n) (hln : Cond.methodLink own idx y ∈ lw_all) (hin : Cond.static y ∈ lw_all) (hdg : decode cc pc = .ok (.invokestatic idx, 3)) (hc : Ctr G dc y cy nLy rety As h 0 0 Qy)  (hd : dc + 1 ≤ d) (kk : ∀ r h1, Qy r h1 → rt_ok rety r → Vv G d own nm cc nL ret mc ms Q (pc + 3) l (r.toList ++ st) h1) (hst : stk = As.reverse ++ st := by rfl) (hn : As.length = n := by rfl) (hcat : (st.map fun v => v.category).sum ≤ 8 := by exact Nat.le_of_ble_eq_true rfl) : Vv G d own nm cc nL ret mc ms Q pc l stk h := v_less (Nat.le_of_eq (Nat.zero_add mc)) (Nat.le_of_eq (Nat.zero_add ms)) (v_callS hm hln hin hdg hc hd kk hst hn hcat)
theorem v_pS (hm : mt_ y cy nLy rety n) (hln : Cond.methodLink own idx y ∈ lw_all) (hin : Cond.static y ∈ lw_all) (hdg : decode cc pc = .ok (.invokestatic idx, 3)) (hc : Ctr G dc y cy nLy rety As h 0 0 (Pu h v))  (hd : dc + 1 ≤ d) (kk : Vv G d own nm cc nL ret mc ms Q (pc + 3) l (v :: st) h) (hst : stk = As.reverse ++ st := by rfl) (hn : As.length = n := by rfl) (hcat : (st.map fun v => v.category).sum ≤ 8 := by exact Nat.le_of_ble_eq_true rfl) : Vv G d own nm cc nL ret mc ms Q pc l stk h := v_zS hm hln hin hdg hc hd (fun r h1 q _ => by obtain ⟨rfl, rfl⟩ := q; exact kk) hst hn hcat
theorem v_cS {mcc msc mc2 ms2 : Nat} (hm : mt_ y cy nLy rety n) (hln : Cond.methodLink own idx y ∈ lw_all) (hin : Cond.static y ∈ lw_all) (hdg : decode cc pc = .ok (.invokestatic idx, 3)) (hc : Ctr G dc y cy nLy rety As h mcc msc Qy)  (hd : dc + 1 ≤ d) (hb1 : mcc + mc2 ≤ mc) (hb2 : msc + ms2 ≤ ms) (kk : ∀ r h1, Qy r h1 → rt_ok rety r → Vv G d own nm cc nL ret mc2 ms2 Q (pc + 3) l (r.toList ++ st) h1) (hst : stk = As.reverse ++ st := by rfl) (hn : As.length = n := by rfl) (hcat : (st.map fun v => v.category).sum ≤ 8 := by exact Nat.le_of_ble_eq_true rfl) : Vv G d own nm cc nL ret mc ms Q pc l stk h := v_less hb1 hb2 (v_callS hm hln hin hdg hc hd kk hst hn hcat)
theorem v_zSN {host : String} (hm : mt_ y cy nLy rety n) (hln : Cond.methodLinkNest own idx y host ∈ nw_all) (hin : Cond.static y ∈ lw_all) (hdg : decode cc pc = .ok (.invokestatic idx, 3)) (hc : Ctr G dc y cy nLy rety As h 0 0 Qy)  (hd : dc + 1 ≤ d) (kk : ∀ r h1, Qy r h1 → rt_ok rety r → Vv G d own nm cc nL ret mc ms Q (pc + 3) l (r.toList ++ st) h1) (hst : stk = As.reverse ++ st := by rfl) (hn : As.length = n := by rfl) (hcat : (st.map fun v => v.category).sum ≤ 8 := by exact Nat.le_of_ble_eq_true rfl) : Vv G d own nm cc nL ret mc ms Q pc l stk h := v_less (Nat.le_of_eq (Nat.zero_add mc)) (Nat.le_of_eq (Nat.zero_add ms)) (v_callSN hm hln hin hdg hc hd kk hst hn hcat)
theorem v_pSN {host : String} (hm : mt_ y cy nLy rety n) (hln : Cond.methodLinkNest own idx y host ∈ nw_all) (hin : Cond.static y ∈ lw_all) (hdg : decode cc pc = .ok (.invokestatic idx, 3)) (hc : Ctr G dc y cy nLy rety As h 0 0 (Pu h v))  (hd : dc + 1 ≤ d) (kk : Vv G d own nm cc nL ret mc ms Q (pc + 3) l (v :: st) h) (hst : stk = As.reverse ++ st := by rfl) (hn : As.length = n := by rfl) (hcat : (st.map fun v => v.category).sum ≤ 8 := by exact Nat.le_of_ble_eq_true rfl) : Vv G d own nm cc nL ret mc ms Q pc l stk h := v_zSN hm hln hin hdg hc hd (fun r h1 q _ => by obtain ⟨rfl, rfl⟩ := q; exact kk) hst hn hcat
theorem v_cSN {mcc msc mc2 ms2 : Nat} {host : String} (hm : mt_ y cy nLy rety n) (hln : Cond.methodLinkNest own idx y host ∈ nw_all) (hin : Cond.static y ∈ lw_all) (hdg : decode cc pc = .ok (.invokestatic idx, 3)) (hc : Ctr G dc y cy nLy rety As h mcc msc Qy)  (hd : dc + 1 ≤ d) (hb1 : mcc + mc2 ≤ mc) (hb2 : msc + ms2 ≤ ms) (kk : ∀ r h1, Qy r h1 → rt_ok rety r → Vv G d own nm cc nL ret mc2 ms2 Q (pc + 3) l (r.toList ++ st) h1) (hst : stk = As.reverse ++ st := by rfl) (hn : As.length = n := by rfl) (hcat : (st.map fun v => v.category).sum ≤ 8 := by exact Nat.le_of_ble_eq_true rfl) : Vv G d own nm cc nL ret mc ms Q pc l stk h := v_less hb1 hb2 (v_callSN hm hln hin hdg hc hd kk hst hn hcat)
theorem v_zI {b : Nat} (hm : mt_ y cy nLy none n) (hln : Cond.methodLink own idx y ∈ lw_all) (hin : Cond.instanceMethod y ∈ lw_all) (hini : y.name = "<init>") (hdg : decode cc pc = .ok (.invokespecial idx, 3)) (hc : Ctr G dc y cy nLy none (.ref b :: As) h 0 0 Qy)  (hd : dc + 1 ≤ d) (kk : ∀ r h1, Qy r h1 → rt_ok none r → Vv G d own nm cc nL ret mc ms Q (pc + 3) l (r.toList ++ st) h1) (hst : stk = As.reverse ++ .ref b :: st := by rfl) (hn : As.length = n := by rfl) (hcat : (st.map fun v => v.category).sum ≤ 8 := by exact Nat.le_of_ble_eq_true rfl) : Vv G d own nm cc nL ret mc ms Q pc l stk h := v_less (Nat.le_of_eq (Nat.zero_add mc)) (Nat.le_of_eq (Nat.zero_add ms)) (v_callI hm hln hin hini hdg hc hd kk hst hn hcat)
theorem v_cI {mcc msc mc2 ms2 : Nat} {b : Nat} (hm : mt_ y cy nLy none n) (hln : Cond.methodLink own idx y ∈ lw_all) (hin : Cond.instanceMethod y ∈ lw_all) (hini : y.name = "<init>") (hdg : decode cc pc = .ok (.invokespecial idx, 3)) (hc : Ctr G dc y cy nLy none (.ref b :: As) h mcc msc Qy)  (hd : dc + 1 ≤ d) (hb1 : mcc + mc2 ≤ mc) (hb2 : msc + ms2 ≤ ms) (kk : ∀ r h1, Qy r h1 → rt_ok none r → Vv G d own nm cc nL ret mc2 ms2 Q (pc + 3) l (r.toList ++ st) h1) (hst : stk = As.reverse ++ .ref b :: st := by rfl) (hn : As.length = n := by rfl) (hcat : (st.map fun v => v.category).sum ≤ 8 := by exact Nat.le_of_ble_eq_true rfl) : Vv G d own nm cc nL ret mc ms Q pc l stk h := v_less hb1 hb2 (v_callI hm hln hin hini hdg hc hd kk hst hn hcat)
theorem v_zIN {b : Nat} {host : String} (hm : mt_ y cy nLy none n) (hln : Cond.methodLinkNest own idx y host ∈ nw_all) (hin : Cond.instanceMethod y ∈ lw_all) (hini : y.name = "<init>") (hdg : decode cc pc = .ok (.invokespecial idx, 3)) (hc : Ctr G dc y cy nLy none (.ref b :: As) h 0 0 Qy)  (hd : dc + 1 ≤ d) (kk : ∀ r h1, Qy r h1 → rt_ok none r → Vv G d own nm cc nL ret mc ms Q (pc + 3) l (r.toList ++ st) h1) (hst : stk = As.reverse ++ .ref b :: st := by rfl) (hn : As.length = n := by rfl) (hcat : (st.map fun v => v.category).sum ≤ 8 := by exact Nat.le_of_ble_eq_true rfl) : Vv G d own nm cc nL ret mc ms Q pc l stk h := v_less (Nat.le_of_eq (Nat.zero_add mc)) (Nat.le_of_eq (Nat.zero_add ms)) (v_callIN hm hln hin hini hdg hc hd kk hst hn hcat)
theorem v_cIN {mcc msc mc2 ms2 : Nat} {b : Nat} {host : String} (hm : mt_ y cy nLy none n) (hln : Cond.methodLinkNest own idx y host ∈ nw_all) (hin : Cond.instanceMethod y ∈ lw_all) (hini : y.name = "<init>") (hdg : decode cc pc = .ok (.invokespecial idx, 3)) (hc : Ctr G dc y cy nLy none (.ref b :: As) h mcc msc Qy)  (hd : dc + 1 ≤ d) (hb1 : mcc + mc2 ≤ mc) (hb2 : msc + ms2 ≤ ms) (kk : ∀ r h1, Qy r h1 → rt_ok none r → Vv G d own nm cc nL ret mc2 ms2 Q (pc + 3) l (r.toList ++ st) h1) (hst : stk = As.reverse ++ .ref b :: st := by rfl) (hn : As.length = n := by rfl) (hcat : (st.map fun v => v.category).sum ≤ 8 := by exact Nat.le_of_ble_eq_true rfl) : Vv G d own nm cc nL ret mc ms Q pc l stk h := v_less hb1 hb2 (v_callIN hm hln hin hini hdg hc hd kk hst hn hcat)
end CW
end LOOPS
theorem ctr_w {G : Gv} {d : Nat} {y : MethodName} {cc : ByteArray} {nL : Nat} {ret : Option FieldType} {as : List Value} {h : AH} {mc ms : Nat} {Q Q' : Option Value → AH → Prop} (k : Ctr G d y cc nL ret as h mc ms Q) (hq : ∀ r h1, Q r h1 → Q' r h1) : Ctr G d y cc nL ret as h mc ms Q' := fun ad => by
  refine MetFree.mono (k ad) (fun _ _ z => z) (fun _ _ _ _ _ z => z) (fun a s0 o t _ hq9 => ?_)
  obtain ⟨⟨⟨ad', r, h1, e1, e2, e3⟩, e4⟩, e5⟩ := hq9
  exact ⟨⟨⟨ad', r, h1, e1, hq r h1 e2, e3⟩, e4⟩, e5⟩
def mR_l : List (Nat × Nat) := [(1, 242), (2, 243), (3, 244), (5, 245), (6, 246), (7, 247), (8, 248), (9, 249), (10, 250), (11, 251), (12, 252), (13, 253), (18, 254), (19, 255), (20, 256), (21, 257), (22, 258), (43, 259), (44, 260), (45, 261), (46, 262), (49, 263), (50, 264), (51, 265), (52, 266), (53, 267), (54, 268), (55, 269), (57, 270), (58, 271), (59, 272)]
/-! the reference's cells: the object at 241, its arrays behind it -/
def mK_l : List (Nat × Nat) := [(0, 0), (100, 6), (100, 19560), (101, 3), (100, 100), (100, 1000), (100, 1000), (100, 1800), (100, 1800), (100, 100), (101, 1800), (101, 1800), (100, 400), (100, 16), (100, 128), (100, 128), (100, 128), (103, 8), (100, 210), (100, 110), (100, 110), (100, 30), (100, 8), (100, 8), (100, 8), (100, 8), (100, 8), (100, 8), (101, 72), (100, 9), (100, 9), (103, 10)]
def MI (h : AH) : Prop := (∀ i, i < 32 → hp_K h (241 + i) = mK_l.getD i (999, 0)) ∧ ∀ f p, (f, p) ∈ mR_l → hp_R h 241 f = some p
theorem mK_obj {h : AH} (hm : MI h) : hp_K h 241 = (0, 0) := hm.1 0 (by decide)
theorem mK_refused {h : AH} (hm : MI h) : hp_K h 242 = (100 + 0, 6) := hm.1 1 (by decide)
theorem mR_refused {h : AH} (hm : MI h) : hp_R h 241 1 = some 242 := hm.2 1 242 (by decide)
theorem mK_all {h : AH} (hm : MI h) : hp_K h 243 = (100 + 0, 19560) := hm.1 2 (by decide)
theorem mR_all {h : AH} (hm : MI h) : hp_R h 241 2 = some 243 := hm.2 2 243 (by decide)
theorem mK_hasImage {h : AH} (hm : MI h) : hp_K h 244 = (100 + 1, 3) := hm.1 3 (by decide)
theorem mR_hasImage {h : AH} (hm : MI h) : hp_R h 241 3 = some 244 := hm.2 3 244 (by decide)
theorem mK_lit {h : AH} (hm : MI h) : hp_K h 245 = (100 + 0, 100) := hm.1 4 (by decide)
theorem mR_lit {h : AH} (hm : MI h) : hp_R h 241 5 = some 245 := hm.2 5 245 (by decide)
theorem mK_eyed {h : AH} (hm : MI h) : hp_K h 246 = (100 + 0, 1000) := hm.1 5 (by decide)
theorem mR_eyed {h : AH} (hm : MI h) : hp_R h 241 6 = some 246 := hm.2 6 246 (by decide)
theorem mK_watched {h : AH} (hm : MI h) : hp_K h 247 = (100 + 0, 1000) := hm.1 6 (by decide)
theorem mR_watched {h : AH} (hm : MI h) : hp_R h 241 7 = some 247 := hm.2 7 247 (by decide)
theorem mK_vouched {h : AH} (hm : MI h) : hp_K h 248 = (100 + 0, 1800) := hm.1 7 (by decide)
theorem mR_vouched {h : AH} (hm : MI h) : hp_R h 241 8 = some 248 := hm.2 8 248 (by decide)
theorem mK_heldBy {h : AH} (hm : MI h) : hp_K h 249 = (100 + 0, 1800) := hm.1 8 (by decide)
theorem mR_heldBy {h : AH} (hm : MI h) : hp_R h 241 9 = some 249 := hm.2 9 249 (by decide)
theorem mK_ruled {h : AH} (hm : MI h) : hp_K h 250 = (100 + 0, 100) := hm.1 9 (by decide)
theorem mR_ruled {h : AH} (hm : MI h) : hp_R h 241 10 = some 250 := hm.2 10 250 (by decide)
theorem mK_isFree {h : AH} (hm : MI h) : hp_K h 251 = (100 + 1, 1800) := hm.1 10 (by decide)
theorem mR_isFree {h : AH} (hm : MI h) : hp_R h 241 11 = some 251 := hm.2 11 251 (by decide)
theorem mK_isTied {h : AH} (hm : MI h) : hp_K h 252 = (100 + 1, 1800) := hm.1 11 (by decide)
theorem mR_isTied {h : AH} (hm : MI h) : hp_R h 241 12 = some 252 := hm.2 12 252 (by decide)
theorem mK_tape {h : AH} (hm : MI h) : hp_K h 253 = (100 + 0, 400) := hm.1 12 (by decide)
theorem mR_tape {h : AH} (hm : MI h) : hp_R h 241 13 = some 253 := hm.2 13 253 (by decide)
theorem mK_steps {h : AH} (hm : MI h) : hp_K h 254 = (100 + 0, 16) := hm.1 13 (by decide)
theorem mR_steps {h : AH} (hm : MI h) : hp_R h 241 18 = some 254 := hm.2 18 254 (by decide)
theorem mK_kindOf {h : AH} (hm : MI h) : hp_K h 255 = (100 + 0, 128) := hm.1 14 (by decide)
theorem mR_kindOf {h : AH} (hm : MI h) : hp_R h 241 19 = some 255 := hm.2 19 255 (by decide)
theorem mK_sideOf {h : AH} (hm : MI h) : hp_K h 256 = (100 + 0, 128) := hm.1 15 (by decide)
theorem mR_sideOf {h : AH} (hm : MI h) : hp_R h 241 20 = some 256 := hm.2 20 256 (by decide)
theorem mK_manyOf {h : AH} (hm : MI h) : hp_K h 257 = (100 + 0, 128) := hm.1 16 (by decide)
theorem mR_manyOf {h : AH} (hm : MI h) : hp_R h 241 21 = some 257 := hm.2 21 257 (by decide)
theorem mK_nameOf {h : AH} (hm : MI h) : hp_K h 258 = (100 + 3, 8) := hm.1 17 (by decide)
theorem mR_nameOf {h : AH} (hm : MI h) : hp_R h 241 22 = some 258 := hm.2 22 258 (by decide)
theorem mK_told {h : AH} (hm : MI h) : hp_K h 259 = (100 + 0, 210) := hm.1 18 (by decide)
theorem mR_told {h : AH} (hm : MI h) : hp_R h 241 43 = some 259 := hm.2 43 259 (by decide)
theorem mK_soonest {h : AH} (hm : MI h) : hp_K h 260 = (100 + 0, 110) := hm.1 19 (by decide)
theorem mR_soonest {h : AH} (hm : MI h) : hp_R h 241 44 = some 260 := hm.2 44 260 (by decide)
theorem mK_latest {h : AH} (hm : MI h) : hp_K h 261 = (100 + 0, 110) := hm.1 20 (by decide)
theorem mR_latest {h : AH} (hm : MI h) : hp_R h 241 45 = some 261 := hm.2 45 261 (by decide)
theorem mK_hops {h : AH} (hm : MI h) : hp_K h 262 = (100 + 0, 30) := hm.1 21 (by decide)
theorem mR_hops {h : AH} (hm : MI h) : hp_R h 241 46 = some 262 := hm.2 46 262 (by decide)
theorem mK_controlKind {h : AH} (hm : MI h) : hp_K h 263 = (100 + 0, 8) := hm.1 22 (by decide)
theorem mR_controlKind {h : AH} (hm : MI h) : hp_R h 241 49 = some 263 := hm.2 49 263 (by decide)
theorem mK_controlWhat {h : AH} (hm : MI h) : hp_K h 264 = (100 + 0, 8) := hm.1 23 (by decide)
theorem mR_controlWhat {h : AH} (hm : MI h) : hp_R h 241 50 = some 264 := hm.2 50 264 (by decide)
theorem mK_controlV {h : AH} (hm : MI h) : hp_K h 265 = (100 + 0, 8) := hm.1 24 (by decide)
theorem mR_controlV {h : AH} (hm : MI h) : hp_R h 241 51 = some 265 := hm.2 51 265 (by decide)
theorem mK_controlFrom {h : AH} (hm : MI h) : hp_K h 266 = (100 + 0, 8) := hm.1 25 (by decide)
theorem mR_controlFrom {h : AH} (hm : MI h) : hp_R h 241 52 = some 266 := hm.2 52 266 (by decide)
theorem mK_controlTo {h : AH} (hm : MI h) : hp_K h 267 = (100 + 0, 8) := hm.1 26 (by decide)
theorem mR_controlTo {h : AH} (hm : MI h) : hp_R h 241 53 = some 267 := hm.2 53 267 (by decide)
theorem mK_controlCost {h : AH} (hm : MI h) : hp_K h 268 = (100 + 0, 8) := hm.1 27 (by decide)
theorem mR_controlCost {h : AH} (hm : MI h) : hp_R h 241 54 = some 268 := hm.2 54 268 (by decide)
theorem mK_fitted {h : AH} (hm : MI h) : hp_K h 269 = (100 + 1, 72) := hm.1 28 (by decide)
theorem mR_fitted {h : AH} (hm : MI h) : hp_R h 241 55 = some 269 := hm.2 55 269 (by decide)
theorem mK_answers {h : AH} (hm : MI h) : hp_K h 270 = (100 + 0, 9) := hm.1 29 (by decide)
theorem mR_answers {h : AH} (hm : MI h) : hp_R h 241 57 = some 270 := hm.2 57 270 (by decide)
theorem mK_hitsOf {h : AH} (hm : MI h) : hp_K h 271 = (100 + 0, 9) := hm.1 30 (by decide)
theorem mR_hitsOf {h : AH} (hm : MI h) : hp_R h 241 58 = some 271 := hm.2 58 271 (by decide)
theorem mK_rows {h : AH} (hm : MI h) : hp_K h 272 = (100 + 3, 10) := hm.1 31 (by decide)
theorem mR_rows {h : AH} (hm : MI h) : hp_R h 241 59 = some 272 := hm.2 59 272 (by decide)
/-- the same kinds and references -/
theorem MI_of {h h' : AH} (hm : MI h) (h1 : ∀ p, 241 ≤ p → p < 273 → hp_K h' p = hp_K h p) (h2 : ∀ k, hp_R h' 241 k = hp_R h 241 k) : MI h' := ⟨fun i hi => by rw [h1 _ (by omega) (by omega)]; exact hm.1 i hi, fun f p hf => by rw [h2]; exact hm.2 f p hf⟩
theorem MI_I {h : AH} {p k : Nat} {v : Int32} (hm : MI h) : MI (up_I h p k v) := hm
theorem MI_L {h : AH} {p k : Nat} {v : Int64} (hm : MI h) : MI (up_L h p k v) := hm
