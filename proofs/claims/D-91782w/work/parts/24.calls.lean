set_option maxRecDepth 100000
section CALLS
variable {G : Gv} {d : Nat} {own nm : String} {cc : ByteArray} {nL : Nat} {ret : Option FieldType} {mc ms : Nat} {Q : Option Value → AH → Prop} {pc : Nat} {l : List (Nat × Value)} {st : List Value} {h : AH}
def rm_ (d mc ms : Nat) : Room := { frames := d, cells := mc, slots := ms, locals := 60 * d }
def pre_ (G : Gv) (ad : Nat → Nat) (h : AH) (as : List Value) : State → Prop := fun U => ev_ok G U ∧ hp_ok G ad h U.heap ∧ ∀ v ∈ as, vi_ (hp_n h) v
def po_ (G : Gv) (ad : Nat → Nat) (h : AH) (ret : Option FieldType) (Q : Option Value → AH → Prop) : Array Value → State → Outcome → State → Prop := fun _ s0 o t => (∃ (ad' : Nat → Nat) (r : Option Value) (h' : AH), o = .returned (r.map (cv_ ad')) ∧ Q r h' ∧ rt_ok ret r ∧ hp_n h ≤ hp_n h' ∧ (∀ q, q < hp_n h → ad' q = ad q) ∧ hp_ok G ad' h' t.heap ∧ ∀ v, r = some v → vi_ (hp_n h') v) ∧ va_F (gv_A G) s0 t
/-- A CONTRACT: method y, called with these values on this heap, at most d frames deep, comes to an end with Q -/
def Ctr (G : Gv) (d : Nat) (y : MethodName) (cc : ByteArray) (nL : Nat) (ret : Option FieldType) (as : List Value) (h : AH) (mc ms : Nat) (Q : Option Value → AH → Prop) : Prop := ∀ ad, Met (gv_l G) y (ws_ y cc nL ret) (rm_ d mc ms) (va_Pc (as.map (cv_ ad)) (pre_ G ad h as)) (po_ G ad h ret Q) mc ms (gv_A G)
theorem la_cv (ad : Nat → Nat) : ∀ (as : List Value) (i : Nat), lv_args i (as.map (cv_ ad)) = (lv_args i as).map (cp_ ad)
  | [], _ => rfl
  | v :: vs, i => by
    show (i, cv_ ad v) :: lv_args (if (cv_ ad v).category = 2 then i + 2 else i + 1) (vs.map (cv_ ad)) = (i, cv_ ad v) :: (lv_args (if v.category = 2 then i + 2 else i + 1) vs).map (cp_ ad)
    rw [cv_cat, la_cv ad vs]
theorem sl_cv (ad : Nat → Nat) : ∀ (as : List Value), (lg_sl (as.map (cv_ ad))).length = (lg_sl as).length
  | [] => rfl
  | v :: vs => by
    show ((if (cv_ ad v).category = 2 then [Slot.val (cv_ ad v), .second] else [.val (cv_ ad v)]) ++ lg_sl (vs.map (cv_ ad))).length = ((if v.category = 2 then [Slot.val v, .second] else [.val v]) ++ lg_sl vs).length
    rw [List.length_append, List.length_append, sl_cv ad vs, cv_cat]
    split <;> rfl
theorem la_mem : ∀ (as : List Value) (i : Nat) (q : Nat × Value), q ∈ lv_args i as → q.2 ∈ as
  | [], _, _, h => by cases h
  | v :: vs, i, q, h => by
    rcases List.mem_cons.mp h with h | h
    · rw [h]; exact List.mem_cons_self
    · exact List.mem_cons_of_mem _ (la_mem vs _ q h)
theorem ctr_of {desc : String} {as : List Value} (hpn : plainName own = true) (hlen : (lg_sl as).length ≤ nL) (k : Vv G d own nm cc nL ret mc ms Q 0 (lv_args 0 as) [] h) : Ctr G d ⟨own, nm, desc⟩ cc nL ret as h mc ms Q := by
  intro ad
  refine Met.ofW (cc := cc) (maxL := nL) (ret := ret) hpn rfl ?_
  intro p e s m args below meth c s₁ B hml hv
  obtain ⟨rfl, hev, hho, hvi⟩ := hv
  have hts := atoms_spec (ws := ws_ ⟨own, nm, desc⟩ cc nL ret) B.pre
  have hts : ∀ w ∈ lw_all, w.before _ s = true := fun w h => hts w (List.mem_cons_of_mem _ h)
  have hr := B.returns
  have hlocks := B.notSynchronized
  have hx := B.exec
  have hb := B.bytes
  have hl0 := lv_entry (as.map (cv_ ad)) (n := nL) (by rw [sl_cv]; exact hlen)
  rw [lg_entry_eq]
  generalize (lg_sl (as.map (cv_ ad)) ++ List.replicate (nL - (lg_sl (as.map (cv_ ad))).length) Slot.unset).toArray = ls at hl0 ⊢
  refine k p e _ s m _ below meth c _ ad (hp_n h) ⟨hx, hb, hml, findClass_of_methodNamed B.named, hts, hev, (name_of_methodNamed B.named B.method).1, Nat.le_refl d, Nat.le_refl (60 * d), hho.2.2.2.1, hho.2.2.1⟩ ?_ ad s.heap [] 0 0 ls ⟨hho, Nat.le_refl _, fun _ _ => rfl, va_S.rf, by show 0 + mc ≤ mc; omega, by show 0 + ms ≤ ms; omega, by rw [← la_cv]; exact hl0, fun q hq => hvi _ (la_mem _ _ _ hq)⟩ (fun v hv => by cases hv)
  intro ad1 h1 r H locs cells slots pc ls hq hrt hok hn had hvi1 hS hc hs hdg
  refine W.widen (k := mc) (n := ms) hc hs ?_
  have post : ∀ t : State, t.heap = H → po_ G ad h ret Q (as.map (cv_ ad)).toArray s (.returned (r.map (cv_ ad1))) t := fun t ht => ⟨⟨ad1, r, h1, rfl, hq, hrt, hn, had, by rw [ht]; exact hok, hvi1⟩, hS.F ht⟩
  cases r with
  | none =>
    cases ret with
    | none => exact W.vret hx hb hr (fun t ht _ => post t ht) hS.2.2 hdg
    | some ty => exact absurd hrt (by intro z; cases z)
  | some v =>
    cases ret with
    | none => exact absurd hrt (by intro z; cases v <;> cases z)
    | some ty =>
      cases v with
      | int x => exact W.zret (v := x) hx hb hr hrt (fun t ht _ => post t ht) hS.2.2 hdg
      | long x => exact W.lret (v := x) hx hb (hr.trans (congrArg some hrt)) (fun t ht _ => post t ht) hS.2.2 hdg
      | ref x => exact W.aret (v := .ref (ad1 x)) hx hb hr hrt (Or.inr ⟨_, rfl⟩) (fun t ht _ => post t ht) hS.2.2 hdg
      | null => exact W.aret (v := .null) hx hb hr hrt (Or.inl rfl) (fun t ht _ => post t ht) hS.2.2 hdg
      | float x => exact absurd hrt (by intro z; cases z)
      | double x => exact absurd hrt (by intro z; cases z)
      | retAddr x => exact absurd hrt (by intro z; cases z)
theorem pre_blind {ad : Nat → Nat} {as : List Value} : FrameBlind (va_Pc (as.map (cv_ ad)) (pre_ G ad h as)) := fun a U g mk q => ⟨q.1, ev_same (s := U) (U := U.calling g mk a) rfl q.2.1, q.2.2⟩
theorem pre_at {ad : Nat → Nat} {as : List Value} {s U : State} {H : Heap} (hev : ev_ok G s) (hok : hp_ok G ad h H) (hvi : ∀ v ∈ as, vi_ (hp_n h) v) (hU : U.heap = H) (hW : s.WarmedH U.vm) : va_Pc (as.map (cv_ ad)) (pre_ G ad h as) (as.map (cv_ ad)).toArray U := ⟨rfl, ev_warm hW hev, by rw [hU]; exact hok, hvi⟩
/-- behind a call -/
theorem v_beh {mcc msc : Nat} {rety : Option FieldType} {Qy : Option Value → AH → Prop} {a : Array Value} {st0 : List Value} {pg : Program} {e : Env} {R : Room} {s : State} {m : MethodId} {args : Array Value} {below : List Frame} {meth : Method} {c : Code} {Z : State → Prop} {ad0 : Nat → Nat} {n0 : Nat} (hC : cx_ok G d own nm cc nL pg R s m args meth c) (hE : ex_ok G cc ret Q pg e R s m args below meth c Z ad0 n0)
    {ad : Nat → Nat} {H : Heap} {locs : List Loc} {cells slots : Nat} {ls : Array Slot} (S : st_ok G nL (mcc + mc) (msc + ms) R s ad0 n0 ad H locs cells slots ls l h) (V : ∀ v ∈ st, vi_ (hp_n h) v)
    (hr : va_Run pg (gv_l G) e R s m args below meth c H locs cells slots mcc msc (F0 m pc ls st0) (st.map (cv_ ad)) (po_ G ad h rety Qy a) (gv_A G))
    (kk : ∀ r h1, Qy r h1 → rt_ok rety r → Vv G d own nm cc nL ret mc ms Q (pc + 3) l (r.toList ++ st) h1) : W pg (gv_l G) e R s m args below meth c H locs cells slots Z (F0 m pc ls st0) := by
  intro T hT X
  obtain ⟨v, st₀, t, T', L, h0, X', hL, e1, e2, ⟨⟨ad', r, h', ho, hq, hrt, hn, had, hok, hvi⟩, hz, hk⟩, stp⟩ := hr T hT X
  have hv : v = r.map (cv_ ad') := Outcome.returned.inj ho
  rw [h0] at hz hk
  obtain ⟨S1, S2, S3, S4, S5, S6, S7, S8⟩ := S
  have hA : ∀ q : Nat, s.heap.size ≤ q → gv_A G q := fun q hq => Nat.le_trans hC.2.2.2.2.2.2.2.2.2.1 hq
  have hS' : va_S (gv_A G) s.heap T'.heap (locs ++ L) := ⟨Nat.le_trans S4.1 (by rw [e1]; exact hz), fun q h1 h2 => by rw [e1, hk q (Nat.lt_of_lt_of_le h1 S4.1) h2]; exact S4.2.1 q h1 h2, fun q hq => by
    rcases List.mem_append.mp hq with h | h
    · exact S4.2.2 q h
    · exact hL q h⟩
  obtain ⟨t2, a1, b1⟩ := kk r h' hq hrt pg e R s m args below meth c Z ad0 n0 hC hE ad' T'.heap (locs ++ L) (cells + mcc) (slots + msc) ls ⟨by rw [e1]; exact hok, Nat.le_trans S2 hn, fun q hq => (had q (Nat.lt_of_lt_of_le hq S2)).trans (S3 q hq), hS', by omega, by omega, by rw [cps_same had S8]; exact S7, fun q hq => vi_up hn (S8 q hq)⟩ (fun x hx => by
    rcases List.mem_append.mp hx with hx | hx
    · exact hvi x (by cases r with | none => cases hx | some w => rw [List.mem_singleton.mp hx])
    · exact vi_up hn (V x hx)) T' rfl X'
  refine ⟨t2, stp t2 ?_, b1⟩
  have e3 : (r.toList ++ st).map (cv_ ad') = v.toList ++ st.map (cv_ ad) := by
    rw [hv, List.map_append, cvs_same had V]
    cases r <;> rfl
  rw [e3] at a1
  exact a1
/-- a method's words and its pool entry -/
def mt_ (y : MethodName) (cy : ByteArray) (nLy : Nat) (rety : Option FieldType) (n : Nat) : Prop := Cond.code y cy nLy rety ∈ lw_all ∧ Cond.initialized y.cls ∈ lw_all ∧ nLy ≤ 41 ∧ y.cls ≠ "java/lang/invoke/MethodHandle" ∧ y.cls ≠ "java/lang/invoke/VarHandle" ∧ (parseMethodDescriptor y.desc).map (fun d => d.parameters.length) = some n
section CR
variable {idx n dc mcc msc nLy : Nat} {y : MethodName} {cy : ByteArray} {rety : Option FieldType} {As stk : List Value} {Qy : Option Value → AH → Prop}
theorem st_map {ad : Nat → Nat} {b : Nat} (hst : stk = As.reverse ++ .ref b :: st) : stk.map (cv_ ad) = (As.map (cv_ ad)).reverse ++ .ref (ad b) :: st.map (cv_ ad) := by rw [hst, List.map_append, List.map_reverse]; rfl
theorem st_mapS {ad : Nat → Nat} (hst : stk = As.reverse ++ st) : stk.map (cv_ ad) = (As.map (cv_ ad)).reverse ++ st.map (cv_ ad) := by rw [hst, List.map_append, List.map_reverse]
theorem st_vi {b N : Nat} (hst : stk = As.reverse ++ .ref b :: st) (V : ∀ v ∈ stk, vi_ N v) : (∀ v ∈ .ref b :: As, vi_ N v) ∧ ∀ v ∈ st, vi_ N v := by
  subst hst
  refine ⟨fun v hv => ?_, fun v hv => V v (List.mem_append_right _ (List.mem_cons_of_mem _ hv))⟩
  rcases List.mem_cons.mp hv with h | h
  · exact V v (List.mem_append_right _ (by rw [h]; exact List.mem_cons_self))
  · exact V v (List.mem_append_left _ (List.mem_reverse.mpr h))
theorem st_viS {N : Nat} (hst : stk = As.reverse ++ st) (V : ∀ v ∈ stk, vi_ N v) : (∀ v ∈ As, vi_ N v) ∧ ∀ v ∈ st, vi_ N v := by
  subst hst
  exact ⟨fun v hv => V v (List.mem_append_left _ (List.mem_reverse.mpr hv)), fun v hv => V v (List.mem_append_right _ hv)⟩
theorem ct_cv (ad : Nat → Nat) (st : List Value) : ((st.map (cv_ ad)).map fun v => v.category).sum = (st.map fun v => v.category).sum := by rw [List.map_map]; congr 1; exact List.map_congr_left fun v _ => cv_cat ad v
/-- the receiver's class is known -/
theorem rc_at {s : State} {ad : Nat → Nat} {H : Heap} {b ci N : Nat} {C : String} {T : u_T} (hev : ev_ok G s) (hok : hp_ok G ad h H) (hK : hp_K h b = (ci, 0)) (hci : ci < 100) (hcl : clA[ci]? = some (C, T, N)) : ∃ cell : Cell, H[ad b]? = some cell ∧ cell.vm.isStatics = false ∧ s.vm.findClass C = some cell.cls := by
  obtain ⟨g1, g2⟩ := kd_in hok.2.2.2.2.1 hK (by show ci ≠ 999; omega)
  exact va_recv hev.1 hok.1 (q0 := b - 30) hcl (by rw [wd_at g1 g2, ce_obj hK hci hcl])
/-- invokevirtual of the very method -/
theorem v_callV {b ci N : Nat} {T : u_T} (hm : mt_ y cy nLy rety n) (hln : Cond.methodLink own idx y ∈ lw_all) (hin : Cond.instanceMethod y ∈ lw_all) (hsel : Cond.selects y.cls y y ∈ lw_all) (hcl : clA[ci]? = some (y.cls, T, N)) (hci : ci < 100) (hdg : decode cc pc = .ok (.invokevirtual idx, 3)) (hc : Ctr G dc y cy nLy rety (.ref b :: As) h mcc msc Qy) (hK : hp_K h b = (ci, 0)) (hd : dc + 1 ≤ d) (kk : ∀ r h1, Qy r h1 → rt_ok rety r → Vv G d own nm cc nL ret mc ms Q (pc + 3) l (r.toList ++ st) h1) (hst : stk = As.reverse ++ .ref b :: st := by rfl) (hn : As.length = n := by rfl) (hcat : (st.map fun v => v.category).sum ≤ 8 := by exact Nat.le_of_ble_eq_true rfl) : Vv G d own nm cc nL ret (mcc + mc) (msc + ms) Q pc l stk h := fun pg e R s m args below meth c Z ad0 n0 hC hE ad H locs cells slots ls S V => by
  obtain ⟨V1, V2⟩ := st_vi hst V
  obtain ⟨m1, m2, m3, m4, m5, m6⟩ := hm
  have hts := hC.2.2.2.2.1
  rw [st_map hst]
  refine v_beh hC hE S V2 (va_runV (C := y.cls) (rm := rm_ dc mcc msc) (n := n) ⟨hC.1, hC.2.1, hC.2.2.1, hC.2.2.2.1, hts⟩ (hc ad) (cwV n hts (lw_V hln hin hsel m2 m1) rfl rfl rfl ⟨rfl, m4, m5, m6⟩ ⟨?_, ?_⟩) ⟨pre_blind, rc_at hC.2.2.2.2.2.1 S.1 hK hci hcl, fun U hU hW => pre_at hC.2.2.2.2.2.1 S.1 V1 hU hW⟩ rfl (by rw [List.length_map]; exact hn) (st_has S).1 rfl (lv_room (by rw [ct_cv]; exact hcat)) hdg ⟨by have := S.2.2.2.2.1; omega, by have := S.2.2.2.2.2.1; omega⟩) kk
  · have := hC.2.2.2.2.2.2.2.1; show dc + 1 ≤ _; omega
  · have := hC.2.2.2.2.2.2.2.2.1; show 8 + (nLy + 11) + 60 * dc ≤ _; omega
/-- a constructor, super's too -/
theorem v_callI {b : Nat} (hm : mt_ y cy nLy none n) (hln : Cond.methodLink own idx y ∈ lw_all) (hin : Cond.instanceMethod y ∈ lw_all) (hini : y.name = "<init>") (hdg : decode cc pc = .ok (.invokespecial idx, 3)) (hc : Ctr G dc y cy nLy none (.ref b :: As) h mcc msc Qy) (hd : dc + 1 ≤ d) (kk : ∀ r h1, Qy r h1 → rt_ok none r → Vv G d own nm cc nL ret mc ms Q (pc + 3) l (r.toList ++ st) h1) (hst : stk = As.reverse ++ .ref b :: st := by rfl) (hn : As.length = n := by rfl) (hcat : (st.map fun v => v.category).sum ≤ 8 := by exact Nat.le_of_ble_eq_true rfl) : Vv G d own nm cc nL ret (mcc + mc) (msc + ms) Q pc l stk h := fun pg e R s m args below meth c Z ad0 n0 hC hE ad H locs cells slots ls S V => by
  obtain ⟨V1, V2⟩ := st_vi hst V
  obtain ⟨m1, m2, m3, m4, m5, m6⟩ := hm
  have hts := hC.2.2.2.2.1
  rw [st_map hst]
  refine v_beh hC hE S V2 (va_runI (rm := rm_ dc mcc msc) (n := n) ⟨hC.1, hC.2.1, hC.2.2.1, hC.2.2.2.1, hts⟩ (hc ad) (cwI n hts (lw_meth m1) rfl rfl rfl (hts _ m2) (hts _ hln) (hts _ hin) hini ⟨m4, m5, m6⟩ ⟨?_, ?_⟩) ⟨pre_blind, fun U hU hW => pre_at hC.2.2.2.2.2.1 S.1 V1 hU hW⟩ rfl (by rw [List.length_map]; exact hn) (st_has S).1 rfl (lv_room (by rw [ct_cv]; exact hcat)) hdg ⟨by have := S.2.2.2.2.1; omega, by have := S.2.2.2.2.2.1; omega⟩) kk
  · have := hC.2.2.2.2.2.2.2.1; show dc + 1 ≤ _; omega
  · have := hC.2.2.2.2.2.2.2.2.1; show 8 + (nLy + 11) + 60 * dc ≤ _; omega
/-- invokestatic -/
theorem v_callS (hm : mt_ y cy nLy rety n) (hln : Cond.methodLink own idx y ∈ lw_all) (hin : Cond.static y ∈ lw_all) (hdg : decode cc pc = .ok (.invokestatic idx, 3)) (hc : Ctr G dc y cy nLy rety As h mcc msc Qy) (hd : dc + 1 ≤ d) (kk : ∀ r h1, Qy r h1 → rt_ok rety r → Vv G d own nm cc nL ret mc ms Q (pc + 3) l (r.toList ++ st) h1) (hst : stk = As.reverse ++ st := by rfl) (hn : As.length = n := by rfl) (hcat : (st.map fun v => v.category).sum ≤ 8 := by exact Nat.le_of_ble_eq_true rfl) : Vv G d own nm cc nL ret (mcc + mc) (msc + ms) Q pc l stk h := fun pg e R s m args below meth c Z ad0 n0 hC hE ad H locs cells slots ls S V => by
  obtain ⟨V1, V2⟩ := st_viS hst V
  obtain ⟨m1, m2, m3, m4, m5, m6⟩ := hm
  have hts := hC.2.2.2.2.1
  rw [st_mapS hst]
  refine v_beh hC hE S V2 (va_runS (rm := rm_ dc mcc msc) (n := n) ⟨hC.1, hC.2.1, hC.2.2.1, hC.2.2.2.1, hts⟩ (hc ad) (va_cwS n hts (lw_S hln hin m2 m1) rfl rfl rfl ⟨m4, m5, m6⟩ ⟨?_, ?_⟩) ⟨pre_blind, fun U hU hW => pre_at hC.2.2.2.2.2.1 S.1 V1 hU hW⟩ rfl (by rw [List.length_map]; exact hn) (st_has S).1 rfl (lv_room (by rw [ct_cv]; exact hcat)) hdg ⟨by have := S.2.2.2.2.1; omega, by have := S.2.2.2.2.2.1; omega⟩) kk
  · have := hC.2.2.2.2.2.2.2.1; show dc + 1 ≤ _; omega
  · have := hC.2.2.2.2.2.2.2.2.1; show 8 + (nLy + 11) + 60 * dc ≤ _; omega
/-- nest mates' private ones -/
theorem v_callVN {b ci N : Nat} {T : u_T} {host : String} (hm : mt_ y cy nLy rety n) (hln : Cond.methodLinkNest own idx y host ∈ nw_all) (hin : Cond.instanceMethod y ∈ lw_all) (hsel : Cond.selects y.cls y y ∈ lw_all) (hcl : clA[ci]? = some (y.cls, T, N)) (hci : ci < 100) (hdg : decode cc pc = .ok (.invokevirtual idx, 3)) (hc : Ctr G dc y cy nLy rety (.ref b :: As) h mcc msc Qy) (hK : hp_K h b = (ci, 0)) (hd : dc + 1 ≤ d) (kk : ∀ r h1, Qy r h1 → rt_ok rety r → Vv G d own nm cc nL ret mc ms Q (pc + 3) l (r.toList ++ st) h1) (hst : stk = As.reverse ++ .ref b :: st := by rfl) (hn : As.length = n := by rfl) (hcat : (st.map fun v => v.category).sum ≤ 8 := by exact Nat.le_of_ble_eq_true rfl) : Vv G d own nm cc nL ret (mcc + mc) (msc + ms) Q pc l stk h := fun pg e R s m args below meth c Z ad0 n0 hC hE ad H locs cells slots ls S V => by
  obtain ⟨V1, V2⟩ := st_vi hst V
  obtain ⟨m1, m2, m3, m4, m5, m6⟩ := hm
  have hts := hC.2.2.2.2.1
  rw [st_map hst]
  refine v_beh hC hE S V2 (va_runVN (C := y.cls) (rm := rm_ dc mcc msc) (n := n) (host := host) ⟨hC.1, hC.2.1, hC.2.2.1, hC.2.2.2.1, hts⟩ (hc ad) ⟨va_cnB n hts (lw_meth m1) rfl rfl rfl (hC.2.2.2.2.2.1.2.1 _ hln) (hts _ m2) ⟨m4, m5, m6⟩ ⟨?_, ?_⟩, hts _ hin, hts _ hsel⟩ ⟨pre_blind, rc_at hC.2.2.2.2.2.1 S.1 hK hci hcl, fun U hU hW => pre_at hC.2.2.2.2.2.1 S.1 V1 hU hW⟩ rfl (by rw [List.length_map]; exact hn) (st_has S).1 rfl (lv_room (by rw [ct_cv]; exact hcat)) hdg ⟨by have := S.2.2.2.2.1; omega, by have := S.2.2.2.2.2.1; omega⟩) kk
  · have := hC.2.2.2.2.2.2.2.1; show dc + 1 ≤ _; omega
  · have := hC.2.2.2.2.2.2.2.2.1; show 8 + (nLy + 11) + 60 * dc ≤ _; omega
theorem v_callIN {b : Nat} {host : String} (hm : mt_ y cy nLy none n) (hln : Cond.methodLinkNest own idx y host ∈ nw_all) (hin : Cond.instanceMethod y ∈ lw_all) (hini : y.name = "<init>") (hdg : decode cc pc = .ok (.invokespecial idx, 3)) (hc : Ctr G dc y cy nLy none (.ref b :: As) h mcc msc Qy) (hd : dc + 1 ≤ d) (kk : ∀ r h1, Qy r h1 → rt_ok none r → Vv G d own nm cc nL ret mc ms Q (pc + 3) l (r.toList ++ st) h1) (hst : stk = As.reverse ++ .ref b :: st := by rfl) (hn : As.length = n := by rfl) (hcat : (st.map fun v => v.category).sum ≤ 8 := by exact Nat.le_of_ble_eq_true rfl) : Vv G d own nm cc nL ret (mcc + mc) (msc + ms) Q pc l stk h := fun pg e R s m args below meth c Z ad0 n0 hC hE ad H locs cells slots ls S V => by
  obtain ⟨V1, V2⟩ := st_vi hst V
  obtain ⟨m1, m2, m3, m4, m5, m6⟩ := hm
  have hts := hC.2.2.2.2.1
  rw [st_map hst]
  refine v_beh hC hE S V2 (va_runIN (rm := rm_ dc mcc msc) (n := n) (host := host) ⟨hC.1, hC.2.1, hC.2.2.1, hC.2.2.2.1, hts⟩ (hc ad) ⟨va_cnB n hts (lw_meth m1) rfl rfl rfl (hC.2.2.2.2.2.1.2.1 _ hln) (hts _ m2) ⟨m4, m5, m6⟩ ⟨?_, ?_⟩, hini, hts _ hin⟩ ⟨pre_blind, fun U hU hW => pre_at hC.2.2.2.2.2.1 S.1 V1 hU hW⟩ rfl (by rw [List.length_map]; exact hn) (st_has S).1 rfl (lv_room (by rw [ct_cv]; exact hcat)) hdg ⟨by have := S.2.2.2.2.1; omega, by have := S.2.2.2.2.2.1; omega⟩) kk
  · have := hC.2.2.2.2.2.2.2.1; show dc + 1 ≤ _; omega
  · have := hC.2.2.2.2.2.2.2.2.1; show 8 + (nLy + 11) + 60 * dc ≤ _; omega
theorem v_callSN {host : String} (hm : mt_ y cy nLy rety n) (hln : Cond.methodLinkNest own idx y host ∈ nw_all) (hin : Cond.static y ∈ lw_all) (hdg : decode cc pc = .ok (.invokestatic idx, 3)) (hc : Ctr G dc y cy nLy rety As h mcc msc Qy) (hd : dc + 1 ≤ d) (kk : ∀ r h1, Qy r h1 → rt_ok rety r → Vv G d own nm cc nL ret mc ms Q (pc + 3) l (r.toList ++ st) h1) (hst : stk = As.reverse ++ st := by rfl) (hn : As.length = n := by rfl) (hcat : (st.map fun v => v.category).sum ≤ 8 := by exact Nat.le_of_ble_eq_true rfl) : Vv G d own nm cc nL ret (mcc + mc) (msc + ms) Q pc l stk h := fun pg e R s m args below meth c Z ad0 n0 hC hE ad H locs cells slots ls S V => by
  obtain ⟨V1, V2⟩ := st_viS hst V
  obtain ⟨m1, m2, m3, m4, m5, m6⟩ := hm
  have hts := hC.2.2.2.2.1
  rw [st_mapS hst]
  refine v_beh hC hE S V2 (va_runSN (rm := rm_ dc mcc msc) (n := n) (host := host) ⟨hC.1, hC.2.1, hC.2.2.1, hC.2.2.2.1, hts⟩ (hc ad) ⟨va_cnB n hts (lw_meth m1) rfl rfl rfl (hC.2.2.2.2.2.1.2.1 _ hln) (hts _ m2) ⟨m4, m5, m6⟩ ⟨?_, ?_⟩, hts _ hin, trivial⟩ ⟨pre_blind, fun U hU hW => pre_at hC.2.2.2.2.2.1 S.1 V1 hU hW⟩ rfl (by rw [List.length_map]; exact hn) (st_has S).1 rfl (lv_room (by rw [ct_cv]; exact hcat)) hdg ⟨by have := S.2.2.2.2.1; omega, by have := S.2.2.2.2.2.1; omega⟩) kk
  · have := hC.2.2.2.2.2.2.2.1; show dc + 1 ≤ _; omega
  · have := hC.2.2.2.2.2.2.2.2.1; show 8 + (nLy + 11) + 60 * dc ≤ _; omega
end CR
/-- Object's constructor -/
theorem v_objI {b ci : Nat} {C : String} {T : u_T} {N idx : Nat} (hln : Cond.methodLink own idx objectInit ∈ lw_all) (hin : Cond.instanceMethod objectInit ∈ lw_all) (hco : Cond.code objectInit ⟨#[0xb1]⟩ 1 none ∈ lw_all) (hdg : decode cc pc = .ok (.invokespecial idx, 3)) (hd : 1 ≤ d) (kk : Vv G d own nm cc nL ret mc ms Q (pc + 3) l st h) (hcat : (st.map fun v => v.category).sum ≤ 8 := by exact Nat.le_of_ble_eq_true rfl) : Vv G d own nm cc nL ret mc ms Q pc l (.ref b :: st) h := fun pg e R s m args below meth c Z ad0 n0 hC hE ad H locs cells slots ls S V => by
  have hts := hC.2.2.2.2.1
  refine W.objInit hC.1 hC.2.1 hC.2.2.2.1 (hts _ hln) (hts _ hin) (hts _ hco) rfl (by rw [hC.2.2.1]; exact (st_has S).1) rfl hdg (by have := hC.2.2.2.2.2.2.2.1; omega) ?_ ?_
  · show 2 * 0 + ((st.map (cv_ ad)).map fun v => v.category).sum + 12 ≤ _
    rw [ct_cv]
    have := hC.2.2.2.2.2.2.2.2.1
    omega
  · exact kk pg e R s m args below meth c Z ad0 n0 hC hE ad H locs cells slots ls S (vs_t V)
end CALLS
