set_option maxRecDepth 100000
/-- a class's facts -/
def ck_ (ci : Nat) (C : String) (T : u_T) (N : Nat) : Prop := clA[ci]? = some (C, T, N) ∧ (∀ w ∈ u_ws C T N, w ∈ lw_all) ∧ (∃ ty : Nat → FieldType, (∀ k, k < N → parseFieldDescriptor (T k).2.2.1 = some (ty k)) ∧ ∀ k, k < N → defaultValue (ty k) = if fc_d (T k).2.2.1 = 0 then .int 0 else if fc_d (T k).2.2.1 = 1 then .long 0 else .null) ∧ ((∀ a, a < N → ∀ b, b < N → a ≠ b → (T a).2.1 ≠ (T b).2.1) ∨ ((∀ a, a < N → (T a).2.2.2 = true) ∧ ∀ a, a < N → ∀ b, b < N → a ≠ b → (T a).2.1 ≠ (T b).2.1 ∨ (T a).1 ≠ (T b).1))
/-- a field as an entry of a class's pool names it -/
def fd_ (own : String) (idx ci k : Nat) (desc : String) (fin : Bool) (dc : String) (nst : Bool) : Prop := ∃ (C ref : String) (T : u_T) (N : Nat), ck_ ci C T N ∧ k < N ∧ ci < 100 ∧ (T k).2.2.1 = desc ∧ (T k).2.2.2 = fin ∧ (T k).1 = dc ∧ ((nst = false ∧ Cond.fieldLink own idx ref (T k).2.1 (T k).2.2.1 ∈ lw_all) ∨ (nst = true ∧ ∃ host, Cond.fieldLinkNest own idx ref (T k).2.1 (T k).2.2.1 host ∈ nw_all)) ∧ ((T k).1 = ref ∨ Cond.sameField ref (T k).1 (T k).2.1 (T k).2.2.1 ∈ lw_all)
theorem nw_m {w : Cond} (h : w ∈ lw_tbl) (g : nw_g w = true) : w ∈ nw_all := List.mem_filter.mpr ⟨h, g⟩
theorem ce_obj {ad : Nat → Nat} {tc : Nat → ClassId} {h : AH} {p ci : Nat} (hK : hp_K h p = (ci, 0)) (hc : ci < 100) {C : String} {T : u_T} {N : Nat} (hcl : clA[ci]? = some (C, T, N)) : ce_ ad tc h p = (ad p, .inr (ci, (List.range N).map (ob_v ad h p T))) := by
  unfold ce_ cl_T cl_N
  have e : clA.getD ci (RX0, TX0, 20) = (C, T, N) := by
    rw [List.getD_eq_getElem?_getD, hcl]
    rfl
  rw [hK]
  show (ad p, if ci < 100 then _ else _) = _
  rw [if_pos hc]
  show (ad p, Sum.inr (ci, List.map (ob_v ad h p (clA.getD ci (RX0, TX0, 20)).2.1) (List.range (clA.getD ci (RX0, TX0, 20)).2.2))) = _
  rw [e]
theorem ce_arr {ad : Nat → Nat} {tc : Nat → ClassId} {h : AH} {p t n : Nat} (hK : hp_K h p = (100 + t, n)) : ce_ ad tc h p = (ad p, .inl (tc t, ar_c ad h p t n)) := by
  unfold ce_
  rw [hK]
  show (ad p, if 100 + t < 100 then _ else _) = _
  rw [if_neg (by omega)]
  show (ad p, Sum.inl (tc (100 + t - 100), ar_c ad h p (100 + t - 100) n)) = _
  rw [Nat.add_sub_cancel_left]
theorem fs_at {ad : Nat → Nat} {h : AH} {p : Nat} {T : u_T} {N k : Nat} (hk : k < N) : ((List.range N).map (ob_v ad h p T))[k]? = some (ob_v ad h p T k) := by
  rw [List.getElem?_map, List.getElem?_range hk]; rfl
section HROWS
variable {G : Gv} {d : Nat} {own nm : String} {cc : ByteArray} {nL : Nat} {ret : Option FieldType} {mc ms : Nat} {Q : Option Value → AH → Prop} {pc : Nat} {l : List (Nat × Value)} {st : List Value} {h : AH}
theorem st_in {R : Room} {s : State} {ad0 : Nat → Nat} {n0 : Nat} {ad : Nat → Nat} {H : Heap} {locs : List Loc} {cells slots : Nat} {ls : Array Slot} (S : st_ok G nL mc ms R s ad0 n0 ad H locs cells slots ls l h) {p : Nat} {t : Nat × Nat} (e : hp_K h p = t) (ht : t.1 ≠ 999) : 30 ≤ p ∧ p < hp_n h := kd_in S.1.2.2.2.2.1 e ht
/-- getfield, whatever it holds -/
theorem v_getf {idx ci k p : Nat} {desc dc : String} {fin nst : Bool} {v : Value} (hf : fd_ own idx ci k desc fin dc nst) (hdg : decode cc pc = .ok (.getfield idx, 3)) (hK : hp_K h p = (ci, 0))
    (hv : ∀ (ad : Nat → Nat) (T : u_T), (T k).2.2.1 = desc → ob_v ad h p T k = cv_ ad v) (hi : kd_ok h → p < hp_n h → vi_ (hp_n h) v) (kk : Vv G d own nm cc nL ret mc ms Q (pc + 3) l (v :: st) h) : Vv G d own nm cc nL ret mc ms Q pc l (.ref p :: st) h := fun pg e R s m args below meth c Z ad0 n0 hC hE ad H locs cells slots ls S V => by
  obtain ⟨C, ref, T, N, ⟨hc1, hc2, -, -⟩, hk, hci, hd, -, -, hl, hsm⟩ := hf
  obtain ⟨g1, g2⟩ := st_in S hK (by show ci ≠ 999; omega)
  have hP := S.1.1
  have he : (wd_ ad (gv_t G) h)[p - 30]? = some (ad p, .inr (ci, (List.range N).map (ob_v ad h p T))) := by rw [wd_at g1 g2, ce_obj hK hci hc1]
  have hs : ∀ x, s.fieldFound? (T k).1 (T k).2.1 (T k).2.2.1 = some x → s.fieldFound? ref (T k).2.1 (T k).2.2.1 = some x := by
    rcases hsm with e | e
    · rw [e]; exact fun x h => h
    · exact fun x h => u_same (hC.2.2.2.2.1 _ e) x h
  have hval : ((List.range N).map (ob_v ad h p T))[k]? = some (cv_ ad v) := by rw [fs_at hk, hv ad T hd]
  have kk9 := kk pg e R s m args below meth c Z ad0 n0 hC hE ad H locs cells slots ls S (vs_c (hi S.1.2.2.2.2.1 g2) (vs_t V))
  rcases hl with ⟨-, hl⟩ | ⟨e9, host, hl⟩
  · exact va_get hC.1 hC.2.1 hC.2.2.2.2.1 hc2 hC.2.2.2.1 hC.2.2.2.2.2.1.1 hP (p - 30) he hc1 k hk (hC.2.2.2.2.1 _ hl) hs hval hdg kk9
  · exact va_getN hC.1 hC.2.1 hC.2.2.2.2.1 hc2 hC.2.2.2.1 hC.2.2.2.2.2.1.1 hP (p - 30) he hc1 k hk (va_Nw.use rfl (hC.2.2.2.2.2.1.2.1 _ hl)) hs hval hdg kk9
theorem v_getI {idx ci k p : Nat} {dc : String} {fin nst : Bool} (hf : fd_ own idx ci k "I" fin dc nst) (hdg : decode cc pc = .ok (.getfield idx, 3)) (hK : hp_K h p = (ci, 0)) (kk : Vv G d own nm cc nL ret mc ms Q (pc + 3) l (.int (hp_I h p k) :: st) h) : Vv G d own nm cc nL ret mc ms Q pc l (.ref p :: st) h :=
  v_getf (v := .int (hp_I h p k)) hf hdg hK (fun ad T hd => by unfold ob_v; rw [hd, if_pos (by decide)]; rfl) (fun _ _ => trivial) kk
theorem v_getL {idx ci k p : Nat} {dc : String} {fin nst : Bool} (hf : fd_ own idx ci k "J" fin dc nst) (hdg : decode cc pc = .ok (.getfield idx, 3)) (hK : hp_K h p = (ci, 0)) (kk : Vv G d own nm cc nL ret mc ms Q (pc + 3) l (.long (hp_L h p k) :: st) h) : Vv G d own nm cc nL ret mc ms Q pc l (.ref p :: st) h :=
  v_getf (v := .long (hp_L h p k)) hf hdg hK (fun ad T hd => by unfold ob_v; rw [hd, if_neg (by decide), if_pos (by decide)]; rfl) (fun _ _ => trivial) kk
theorem v_getR {idx ci k p q : Nat} {desc dc : String} {fin nst : Bool} (hf : fd_ own idx ci k desc fin dc nst) (hdg : decode cc pc = .ok (.getfield idx, 3)) (hK : hp_K h p = (ci, 0)) (hR : hp_R h p k = some q) (kk : Vv G d own nm cc nL ret mc ms Q (pc + 3) l (.ref q :: st) h) (hd2 : fc_d desc = 2 := by decide) : Vv G d own nm cc nL ret mc ms Q pc l (.ref p :: st) h :=
  v_getf (v := .ref q) hf hdg hK (fun ad T hd => by unfold ob_v; rw [hd, hd2, if_neg (by decide), if_neg (by decide), hR]; rfl) (fun hk hp => hk.2.2 p k q hp hR) kk
theorem v_getZ {idx ci k p : Nat} {desc dc : String} {fin nst : Bool} (hf : fd_ own idx ci k desc fin dc nst) (hdg : decode cc pc = .ok (.getfield idx, 3)) (hK : hp_K h p = (ci, 0)) (hR : hp_R h p k = none) (kk : Vv G d own nm cc nL ret mc ms Q (pc + 3) l (.null :: st) h) (hd2 : fc_d desc = 2 := by decide) : Vv G d own nm cc nL ret mc ms Q pc l (.ref p :: st) h :=
  v_getf (v := .null) hf hdg hK (fun ad T hd => by unfold ob_v; rw [hd, hd2, if_neg (by decide), if_neg (by decide), hR]; rfl) (fun _ _ => trivial) kk
theorem up_sm {h h' : AH} {p : Nat} (hn : hp_n h' = hp_n h) (hK : hp_K h' = hp_K h) (hr : ∀ q k y, q < hp_n h → hp_R h' q k = some y → y < hp_n h) (hk : kd_ok h) : kd_ok h' := by
  obtain ⟨h1, h2, h3⟩ := hk
  exact ⟨by rw [hn]; exact h1, fun p hp => by rw [hK]; exact h2 p (by rw [hn] at hp; exact hp), fun q k y hq e => by rw [hn] at hq ⊢; exact hr q k y hq e⟩
/-- one cell changed: the frame goes on -/
theorem st_put {R : Room} {s : State} {ad0 : Nat → Nat} {n0 : Nat} {ad : Nat → Nat} {H H1 : Heap} {locs locs1 : List Loc} {cells slots : Nat} {ls : Array Slot} {h' : AH} {p : Nat} {x : Nat × va_E} (S : st_ok G nL mc ms R s ad0 n0 ad H locs cells slots ls l h) (hs0 : (gv_s G).heap.size ≤ s.heap.size) (hn : hp_n h' = hp_n h) (h1 : 30 ≤ p) (ho : ∀ q, q ≠ p → sm_ h h' q) (hx : x = ce_ ad (gv_t G) h' p) (hk : kd_ok h')
    (hP : va_P (gv_D G) clA ((wd_ ad (gv_t G) h).set (p - 30) x) H1) (hD : va_D (gv_A G) ((wd_ ad (gv_t G) h).set (p - 30) x)) (hS : va_S (gv_A G) s.heap H1 locs1) (hol : ∀ q, q < (gv_s G).heap.size → s.heap[q]? = (gv_s G).heap[q]?) : st_ok G nL mc ms R s ad0 n0 ad H1 locs1 cells slots ls l h' := by
  obtain ⟨⟨-, -, S3, S4, S5, S6⟩, T2, T3, T4, T5, T6, T7, T8⟩ := S
  rw [wd_set hn h1 ho hx] at hP hD
  refine ⟨⟨hP, hD, fun q hq => ?_, Nat.le_trans hs0 hS.1, hk, S6⟩, by rw [hn]; exact T2, T3, hS, T5, T6, T7, fun q hq => by rw [hn]; exact T8 q hq⟩
  rw [hS.2.1 q (Nat.lt_of_lt_of_le hq hs0) (fun z => by unfold gv_A at z; omega)]
  exact hol q hq

theorem sm_I {p k : Nat} {v : Int32} : ∀ q, q ≠ p → sm_ h (up_I h p k v) q := fun q hq => ⟨rfl, fun j => by rw [hp_I_I, if_neg (fun z => hq z.1)], fun _ => rfl, fun _ => rfl⟩
theorem sm_L {p k : Nat} {v : Int64} : ∀ q, q ≠ p → sm_ h (up_L h p k v) q := fun q hq => ⟨rfl, fun _ => rfl, fun j => by rw [hp_L_L, if_neg (fun z => hq z.1)], fun _ => rfl⟩
theorem sm_R {p k : Nat} {v : Option Nat} : ∀ q, q ≠ p → sm_ h (up_R h p k v) q := fun q hq => ⟨rfl, fun _ => rfl, fun _ => rfl, fun j => by rw [hp_R_R, if_neg (fun z => hq z.1)]⟩
theorem sm_IA {p : Nat} {f : Nat → Int32} : ∀ q, q ≠ p → sm_ h (up_IA h p f) q := fun q hq => ⟨rfl, fun j => by show (if q = p then _ else _) = _; rw [if_neg hq]; rfl, fun _ => rfl, fun _ => rfl⟩
theorem sm_RA {p : Nat} {f : Nat → Option Nat} : ∀ q, q ≠ p → sm_ h (up_RA h p f) q := fun q hq => ⟨rfl, fun _ => rfl, fun _ => rfl, fun j => by show (if q = p then _ else _) = _; rw [if_neg hq]; rfl⟩
theorem fs_set {ad : Nat → Nat} {h h' : AH} {p k N : Nat} {T : u_T} {v : Value} (hv : ob_v ad h' p T k = v) (ho : ∀ j, j ≠ k → ob_v ad h' p T j = ob_v ad h p T j) : ((List.range N).map (ob_v ad h p T)).set k v = (List.range N).map (ob_v ad h' p T) := by
  refine List.ext_getElem? fun i => ?_
  by_cases hi : i < N
  · by_cases e : i = k
    · subst e
      rw [List.getElem?_set_self (by simpa using hi), fs_at hi, hv]
    · rw [List.getElem?_set_ne (Ne.symm e), fs_at hi, fs_at hi, ho i e]
  · rw [List.getElem?_eq_none (by simp; omega), List.getElem?_eq_none (by simp; omega)]
/-- two fields of one name in two classes stand apart -/
theorem ap_fin {s : State} {args : Array Value} {D : va_G} {tys : List (ClassId × FieldType)} {C : String} {T : u_T} {N ci : Nat} {ty0 : Nat → FieldType} {Ts : List Cond} (hts : ∀ w ∈ Ts, w.before args s = true) (hin : ∀ w ∈ u_ws C T N, w ∈ Ts) (hty : ∀ k, k < N → parseFieldDescriptor (T k).2.2.1 = some (ty0 k)) (hfi : ∀ a, a < N → (T a).2.2.2 = true) (hap : ∀ a, a < N → ∀ b, b < N → a ≠ b → (T a).2.1 ≠ (T b).2.1 ∨ (T a).1 ≠ (T b).1) (hK : va_K D clA tys s) (hc : clA[ci]? = some (C, T, N)) : ∀ x y, x < N → y < N → x ≠ y → (D.2 ci) x ≠ (D.2 ci) y := by
  intro x y hx hy hne hs
  obtain ⟨hS, -⟩ := hK.1 ci _ hc
  obtain ⟨ca, ka, ia, fa, hia, ea⟩ := hS x hx
  obtain ⟨cb, kb, ib, fb, hib, eb⟩ := hS y hy
  have la := hts _ (hin _ (u_in_lay hx))
  have lb := hts _ (hin _ (u_in_lay hy))
  unfold u_lay at la lb
  rw [if_pos (hfi x hx)] at la
  rw [if_pos (hfi y hy)] at lb
  obtain ⟨c1, k1, c1', k1', i1, f1, r1, -, g1, -, -, -, o1, -, d1, hd1, n1, m1, -⟩ := Cond.laysFinal_spec la
  obtain ⟨c2, k2, c2', k2', i2, f2, r2, -, g2, -, -, -, o2, -, d2, hd2, n2, m2, -⟩ := Cond.laysFinal_spec lb
  cases r1.symm.trans r2
  cases hia.symm.trans g1
  cases hib.symm.trans g2
  have hs2 : fa.slot = fb.slot := by rw [ea, eb]; exact hs
  rw [hs2] at hd1
  cases hd1.symm.trans hd2
  rcases hap x hx y hy hne with hz | hz
  · refine hz ?_
    rw [← (State.fieldFound?_type hia (hty x hx)).1, ← (State.fieldFound?_type hib (hty y hy)).1]
    exact m1.symm.trans m2
  · refine hz ?_
    have nmof : ∀ {O f de : String} {c i : Nat} {k : Class} {fd : Field}, s.fieldFound? O f de = some (c, k, i, fd) → s.vm.findClass O = some c → k.name = O := by
      intro O f de c i k fd hf ho
      obtain ⟨hlt, hp, -⟩ := Array.findIdx?_eq_some_iff_getElem.mp ho
      have hk : s.vm.classes[c]? = some k := by
        simp only [State.fieldFound?, Option.bind_eq_bind, Option.bind_eq_some_iff, Option.pure_def, Option.some.injEq, Prod.mk.injEq] at hf
        obtain ⟨t0, -, c0, -, ⟨c', i'⟩, -, k', hk, f', -, rfl, rfl, -, -⟩ := hf
        exact hk
      have e : s.vm.classes[c] = k := (Array.getElem?_eq_some_iff.mp hk).2
      rw [e] at hp
      simp only [Bool.and_eq_true, beq_iff_eq] at hp
      exact hp.1.1.1
    rw [← nmof hia o1, ← nmof hib o2]
    exact n1.symm.trans n2
/-- putfield -/
theorem v_putf {idx ci k p : Nat} {desc dc : String} {fin nst : Bool} {v : Value} {h' : AH} {ty : FieldType} (hf : fd_ own idx ci k desc fin dc nst) (hfin : fin = false ∨ (fin = true ∧ nm = "<init>" ∧ dc = own ∧ nst = false)) (hdg : decode cc pc = .ok (.putfield idx, 3)) (hK : hp_K h p = (ci, 0)) (hd : parseFieldDescriptor desc = some ty) (hnar : ∀ ad, narrow ty (cv_ ad v) = cv_ ad v) (hfit : ∀ ad, fits ty (cv_ ad v) = true)
    (hn : hp_n h' = hp_n h) (hKK : hp_K h' = hp_K h) (ho : ∀ q, q ≠ p → sm_ h h' q) (hv : ∀ (ad : Nat → Nat) (T : u_T), (T k).2.2.1 = desc → ob_v ad h' p T k = cv_ ad v) (hj : ∀ (ad : Nat → Nat) (T : u_T) (j : Nat), j ≠ k → ob_v ad h' p T j = ob_v ad h p T j) (hk9 : kd_ok h → vi_ (hp_n h) v → kd_ok h') (kk : Vv G d own nm cc nL ret mc ms Q (pc + 3) l st h') : Vv G d own nm cc nL ret mc ms Q pc l (v :: .ref p :: st) h := fun pg e R s m args below meth c Z ad0 n0 hC hE ad H locs cells slots ls S V => by
  obtain ⟨C, ref, T, N, ⟨hc1, hc2, ⟨ty0, hty, -⟩, hnm⟩, hk, hci, hd2, hf2, hdc, hl, hsm⟩ := hf
  obtain ⟨g1, g2⟩ := st_in S hK (by show ci ≠ 999; omega)
  have hP := S.1.1
  have hD := S.1.2.1
  have he : (wd_ ad (gv_t G) h)[p - 30]? = some (ad p, .inr (ci, (List.range N).map (ob_v ad h p T))) := by rw [wd_at g1 g2, ce_obj hK hci hc1]
  have hs : ∀ x, s.fieldFound? (T k).1 (T k).2.1 (T k).2.2.1 = some x → s.fieldFound? ref (T k).2.1 (T k).2.2.1 = some x := by
    rcases hsm with e | e
    · rw [e]; exact fun x h => h
    · exact fun x h => u_same (hC.2.2.2.2.1 _ e) x h
  have hx : (ad p, Sum.inr (ci, ((List.range N).map (ob_v ad h p T)).set k (cv_ ad v))) = ce_ ad (gv_t G) h' p := by
    rw [ce_obj (by rw [hKK]; exact hK) hci hc1, fs_set (hv ad T hd2) (fun j hne => hj ad T j hne)]
  have hs0 := hC.2.2.2.2.2.2.2.2.2.1
  have hol := hC.2.2.2.2.2.2.2.2.2.2
  have hk' := hk9 S.1.2.2.2.2.1 (vs_h V)
  have V9 : ∀ x ∈ st, vi_ (hp_n h') x := by rw [hn]; exact vs_t (vs_t V)
  have kk9 : ∀ (H1 : Heap) (locs1 : List Loc), va_P (gv_D G) clA ((wd_ ad (gv_t G) h).set (p - 30) (ad p, .inr (ci, ((List.range N).map (ob_v ad h p T)).set k (cv_ ad v)))) H1 → va_D (gv_A G) ((wd_ ad (gv_t G) h).set (p - 30) (ad p, .inr (ci, ((List.range N).map (ob_v ad h p T)).set k (cv_ ad v)))) → va_S (gv_A G) s.heap H1 locs1 → W pg (gv_l G) e R s m args below meth c H1 locs1 cells slots Z (F0 m (pc + 3) ls (st.map (cv_ ad))) := fun H1 locs1 q1 q2 q3 =>
    kk pg e R s m args below meth c Z ad0 n0 hC hE ad H1 locs1 cells slots ls (st_put S hs0 hn g1 ho hx hk' q1 q2 q3 hol) V9
  have hlen : k < ((List.range N).map (ob_v ad h p T)).length := by simpa using hk
  rcases hnm with hnm | ⟨hfi, hap⟩
  · skip
    rcases hfin with e | ⟨e, e2, e3, e4⟩
    · rcases hl with ⟨-, hl⟩ | ⟨e9, host, hl⟩
      · exact va_put hC.1 hC.2.1 hC.2.2.2.2.1 hc2 ty0 hty hnm hC.2.2.2.1 hC.2.2.2.2.2.1.1 hP hD S.2.2.2.1 (p - 30) he hc1 k hk (hC.2.2.2.2.1 _ hl) hs (hf2.trans e) (by rw [hd2]; exact hd) (hnar ad) (hfit ad) hlen hdg kk9
      · exact va_putN hC.1 hC.2.1 hC.2.2.2.2.1 hc2 ty0 hty hnm hC.2.2.2.1 hC.2.2.2.2.2.1.1 hP hD S.2.2.2.1 (p - 30) he hc1 k hk (va_Nw.use rfl (hC.2.2.2.2.2.1.2.1 _ hl)) hs (hf2.trans e) (by rw [hd2]; exact hd) (hnar ad) (hfit ad) hlen hdg kk9
    · rcases hl with ⟨-, hl⟩ | ⟨e9, host, hl⟩
      · exact va_putF hC.1 hC.2.1 hC.2.2.2.2.1 hc2 ty0 hty hnm hC.2.2.2.1 hC.2.2.2.2.2.1.1 hP hD S.2.2.2.1 (p - 30) he hc1 k hk (hC.2.2.2.2.1 _ hl) hs (hf2.trans e) (hC.2.2.2.2.2.2.1.trans e2) (hdc.trans e3) (by rw [hd2]; exact hd) (hnar ad) (hfit ad) hlen hdg kk9
      · rw [e4] at e9; cases e9
  · rcases hfin with e | ⟨e, e2, e3, e4⟩
    · have e9 : fin = true := hf2.symm.trans (hfi k hk)
      rw [e] at e9; cases e9
    · rcases hl with ⟨-, hl⟩ | ⟨e9, host, hl⟩
      · have hC1 := hC
        have hap9 := ap_fin (args := args) hC.2.2.2.2.1 hc2 hty hfi hap hC.2.2.2.2.2.1.1 hc1
        obtain ⟨r, h1, cell, q1, q2, q3, q4⟩ := hP (p - 30) _ he
        have hr : r = (C, T, N) := Option.some.inj (h1.symm.trans hc1)
        subst hr
        obtain ⟨hS, hfc, kC, hkC, hkind⟩ := hC.2.2.2.2.2.1.1.1 ci _ hc1
        obtain ⟨cf, kf, fi, f, hi, hsl⟩ := hS k hk
        have hlay := hC.2.2.2.2.1 _ (hc2 _ (u_in_lay hk))
        unfold u_lay at hlay
        rw [if_pos (hfi k hk)] at hlay
        have hcf : m.cls = cf := by
          obtain ⟨_, _, c', _, _, _, -, -, hf', -, -, -, hown2, -⟩ := Cond.laysFinal_spec hlay
          have e1 : c' = cf := by have := hi.symm.trans hf'; simp at this; exact this.1.symm
          rw [hdc.trans e3] at hown2
          rw [← e1]; exact Option.some.inj (hC.2.2.2.1.symm.trans hown2)
        have h6 := u_fits hfc hkC hkind (Or.inr hlay) hi (by rw [hd2]; exact hd) (hnar ad) (hfit ad)
        refine W.putFinK hC.1 hC.2.1 hC.2.2.2.1 (hC.2.2.2.2.1 _ hl) (hs _ hi) (u_facts hfc hkC (u_lays hC.2.2.2.2.1 hc2 hk) hi).1 hcf (hC.2.2.2.2.2.2.1.trans e2) (by rw [q2]; exact h6) q1 q3 (by rw [hsl]; exact k2_hasslot (q4 k hk)) rfl rfl hdg fun H' w1 w2 w3 => ?_
        rw [hsl] at w1 ⊢
        exact kk9 H' _ (hP.set hD he ⟨_, hc1, t_OB.to (V := updV (vp_V ((List.range N).map (ob_v ad h p T))) k (cv_ ad v)) ⟨_, w1, q2, q3, t_set q4 hap9 hk (cv_ ad v)⟩ (fun j _ => vp_updV_set hlen _ j)⟩ w3) (hD.set he) (S.2.2.2.1.put w2 w3 (hD.2 (p - 30) _ he))
      · rw [e4] at e9; cases e9

end HROWS
