set_option maxRecDepth 100000
/-- which classes aren't each other (instanceof) -/
def gn_ok (G : Gv) : Prop := va_Nc "RapTable$Held" "RapTable$Came" (gv_s G) ∧ va_Nc "RapTable$Came" "RapTable$Held" (gv_s G)
section XR2
variable {G : Gv} {d : Nat} {own nm : String} {cc : ByteArray} {nL : Nat} {ret : Option FieldType} {mc ms : Nat} {Q : Option Value → AH → Prop} {pc : Nat} {l : List (Nat × Value)} {st : List Value} {h : AH}
/-- checkcast to the very class -/
theorem v_castS {idx p ci N : Nat} {C : String} {T : u_T} (hK : hp_K h p = (ci, 0)) (hci : ci < 100) (hcc : clA[ci]? = some (C, T, N)) (hcl : Cond.classLink own idx C ∈ lw_all) (hdg : decode cc pc = .ok (.checkcast idx, 3)) (kk : Vv G d own nm cc nL ret mc ms Q (pc + 3) l (.ref p :: st) h) : Vv G d own nm cc nL ret mc ms Q pc l (.ref p :: st) h := fun pg e R s m args below meth c Z ad0 n0 hC hE ad H locs cells slots ls S V =>
  va_castS hC.1 hC.2.1 hC.2.2.2.1 (hC.2.2.2.2.1 _ hcl) (hC.2.2.2.2.2.1.1.1 ci _ hcc).2 (rc_at hC.2.2.2.2.2.1 S.1 hK hci hcc) hdg (kk pg e R s m args below meth c Z ad0 n0 hC hE ad H locs cells slots ls S V)
theorem v_instS {idx p ci N : Nat} {C : String} {T : u_T} (hK : hp_K h p = (ci, 0)) (hci : ci < 100) (hcc : clA[ci]? = some (C, T, N)) (hcl : Cond.classLink own idx C ∈ lw_all) (hdg : decode cc pc = .ok (.instanceof idx, 3)) (kk : Vv G d own nm cc nL ret mc ms Q (pc + 3) l (.int 1 :: st) h) : Vv G d own nm cc nL ret mc ms Q pc l (.ref p :: st) h := fun pg e R s m args below meth c Z ad0 n0 hC hE ad H locs cells slots ls S V =>
  va_instS hC.1 hC.2.1 hC.2.2.2.1 (hC.2.2.2.2.1 _ hcl) (hC.2.2.2.2.2.1.1.1 ci _ hcc).2 (rc_at hC.2.2.2.2.2.1 S.1 hK hci hcc) hdg (kk pg e R s m args below meth c Z ad0 n0 hC hE ad H locs cells slots ls S (vs_c trivial (vs_t V)))
theorem v_instNo {idx p ci N : Nat} {C to : String} {T : u_T} (hK : hp_K h p = (ci, 0)) (hci : ci < 100) (hcc : clA[ci]? = some (C, T, N)) (hno : va_Nc C to (gv_s G)) (hcl : Cond.classLink own idx to ∈ lw_all) (hdg : decode cc pc = .ok (.instanceof idx, 3)) (kk : Vv G d own nm cc nL ret mc ms Q (pc + 3) l (.int 0 :: st) h) : Vv G d own nm cc nL ret mc ms Q pc l (.ref p :: st) h := fun pg e R s m args below meth c Z ad0 n0 hC hE ad H locs cells slots ls S V =>
  va_instNo hC.1 hC.2.1 hC.2.2.2.1 (hC.2.2.2.2.1 _ hcl) (va_Nc.moved (cx_al hC) hno) (rc_at hC.2.2.2.2.2.1 S.1 hK hci hcc) hdg (kk pg e R s m args below meth c Z ad0 n0 hC hE ad H locs cells slots ls S (vs_c trivial (vs_t V)))
theorem v_instN {idx : Nat} (hdg : decode cc pc = .ok (.instanceof idx, 3)) (kk : Vv G d own nm cc nL ret mc ms Q (pc + 3) l (.int 0 :: st) h) : Vv G d own nm cc nL ret mc ms Q pc l (.null :: st) h := fun pg e R s m args below meth c Z ad0 n0 hC hE ad H locs cells slots ls S V =>
  lv_instN hC.1 hC.2.1 hdg (kk pg e R s m args below meth c Z ad0 n0 hC hE ad H locs cells slots ls S (vs_c trivial (vs_t V)))
theorem v_castN {idx : Nat} (hdg : decode cc pc = .ok (.checkcast idx, 3)) (kk : Vv G d own nm cc nL ret mc ms Q (pc + 3) l (.null :: st) h) : Vv G d own nm cc nL ret mc ms Q pc l (.null :: st) h := fun pg e R s m args below meth c Z ad0 n0 hC hE ad H locs cells slots ls S V =>
  lv_castN hC.1 hC.2.1 hdg (kk pg e R s m args below meth c Z ad0 n0 hC hE ad H locs cells slots ls S V)
theorem v_iushr {x y : Int32} (hdg : decode cc pc = .ok (.iushr, 1)) (kk : Vv G d own nm cc nL ret mc ms Q (pc + 1) l (.int (x.toUInt32 >>> (y.toUInt32 &&& Int32.toUInt32 31)).toInt32 :: st) h) : Vv G d own nm cc nL ret mc ms Q pc l (.int y :: .int x :: st) h := fun pg e R s m args below meth c Z ad0 n0 hC hE ad H locs cells slots ls S V =>
  lv_iushr hC.1 hC.2.1 hdg rfl (kk pg e R s m args below meth c Z ad0 n0 hC hE ad H locs cells slots ls S (vs_c trivial (vs_t (vs_t V))))
/-- the first n ints of an array are copied into another one -/
theorem v_cpI {idx p q n0 n1 n : Nat} {i0 i1 i2 : Int32} (h0 : i0 = nI 0) (h1 : i1 = nI 0) (h2 : i2 = nI n) (hln : Cond.methodLink own idx arraycopyName ∈ lw_all) (hKp : hp_K h p = (100, n0)) (hKq : hp_K h q = (100, n1)) (hn0 : n ≤ n0) (hn1 : n ≤ n1) (hnn : n < 2 ^ 31) (hd : 1 ≤ d) (hdg : decode cc pc = .ok (.invokestatic idx, 3)) (kk : Vv G d own nm cc nL ret mc ms Q (pc + 3) l st (up_IA h q (fun k => if k < n then hp_I h p k else hp_I h q k))) (hcat : (st.map fun v => v.category).sum ≤ 8 := by exact Nat.le_of_ble_eq_true rfl) : Vv G d own nm cc nL ret mc ms Q pc l (.int i2 :: .int i1 :: .ref q :: .int i0 :: .ref p :: st) h := fun pg e R s m args below meth c Z ad0 n9 hC hE ad H locs cells slots ls S V => by
  subst h0; subst h1; subst h2
  have hts := hC.2.2.2.2.1
  have hev := hC.2.2.2.2.2.1
  have f1 := (kd_in S.1.2.2.2.2.1 hKq (by show (100 : Nat) ≠ 999; omega)).1
  have hp9 := kd_in S.1.2.2.2.2.1 hKp (by show (100 : Nat) ≠ 999; omega)
  have hq9 := kd_in S.1.2.2.2.2.1 hKq (by show (100 : Nat) ≠ 999; omega)
  have he : (wd_ ad (gv_t G) h)[p - 30]? = some (ad p, .inl (gv_t G 0, n0, .inl (hp_I h p))) := by rw [wd_at hp9.1 hp9.2, ce_arr (t := 0) hKp]; rfl
  have hf : (wd_ ad (gv_t G) h)[q - 30]? = some (ad q, .inl (gv_t G 0, n1, .inl (hp_I h q))) := by rw [wd_at hq9.1 hq9.2, ce_arr (t := 0) hKq]; rfl
  have hty : (ty_A (gv_t G))[0]? = some (gv_t G 0, .int) := rfl
  have c0 : (nI 0).toNatClampNeg = 0 := nI_clamp (by decide)
  have cn : (nI n).toNatClampNeg = n := nI_clamp hnn
  have hx9 : ce_ ad (gv_t G) (up_IA h q (fun k => if k < n then hp_I h p k else hp_I h q k)) q = (ad q, .inl (gv_t G 0, n1, .inl (va_cpy (hp_I h p) (hp_I h q) (nI 0).toNatClampNeg (nI 0).toNatClampNeg (nI n).toNatClampNeg))) := by
    rw [ce_arr (h := up_IA h q (fun k => if k < n then hp_I h p k else hp_I h q k)) (t := 0) (n := n1) hKq]
    unfold ar_c
    rw [if_pos (by omega), c0, cn]
    refine congrArg (fun z => (ad q, Sum.inl (gv_t G 0, n1, Sum.inl z))) (funext fun k => ?_)
    show (if q = q then (if k < n then hp_I h p k else hp_I h q k) else _) = va_cpy _ _ 0 0 n k
    unfold va_cpy
    rw [if_pos rfl]
    by_cases z : k < n
    · rw [if_pos z, if_pos (by omega), show 0 + (k - 0) = k by omega]
    · rw [if_neg z, if_neg (by omega)]
  have hw : nativeFrameWords "java/lang/System" "arraycopy" 5 + 11 ≤ 50 := by decide
  refine va_copyi hC.1 hC.2.1 (hC.2.2.1.trans (st_has S).1.symm) hC.2.2.2.1 (hts _ hln) (hts _ q575) (hts _ q574) (hts _ q131) hev.1 S.1.1 S.1.2.1 S.2.2.2.1 (p - 30) (q - 30) 0 0 he hf hty hty rfl (sp := nI 0) (dp := nI 0) (n := nI n) (nI_pos (by decide)) (nI_pos (by decide)) (nI_pos hnn) (by rw [c0, cn]; omega) (by rw [c0, cn]; omega) (fun i hi => rfl) (by have := hC.2.2.2.2.2.2.2.1; omega) (by rw [ct_cv]; have := hC.2.2.2.2.2.2.2.2.1; omega) hdg (fun H1 locs1 z1 z2 z3 => ?_)
  exact kk pg e R s m args below meth c Z ad0 n9 hC hE ad H1 locs1 cells slots ls (st_put S hC.2.2.2.2.2.2.2.2.2.1 rfl f1 sm_IA hx9.symm S.1.2.2.2.2.1 z1 z2 z3 hC.2.2.2.2.2.2.2.2.2.2) (vs_t (vs_t (vs_t (vs_t (vs_t V)))))
theorem v_mmax {idx : Nat} {x y : Int32} (hln : Cond.methodLink own idx Lib.Math.max.name ∈ lw_all) (hd : 1 ≤ d) (hdg : decode cc pc = .ok (.invokestatic idx, 3)) (kk : Vv G d own nm cc nL ret mc ms Q (pc + 3) l (.int (if x < y then y else x) :: st) h) (hcat : (st.map fun v => v.category).sum ≤ 8 := by exact Nat.le_of_ble_eq_true rfl) : Vv G d own nm cc nL ret mc ms Q pc l (.int y :: .int x :: st) h := fun pg e R s m args below meth c Z ad0 n0 hC hE ad H locs cells slots ls S V =>
  va_mmax hC.1 hC.2.1 (hC.2.2.1.trans (st_has S).1.symm) hC.2.2.2.1 (hC.2.2.2.2.1 _ hln) (hC.2.2.2.2.1 _ q529) (hC.2.2.2.2.1 _ q129) (hC.2.2.2.2.1 _ q530) (by have := hC.2.2.2.2.2.2.2.1; omega) (by rw [ct_cv]; have := hC.2.2.2.2.2.2.2.2.1; omega) (by have := S.2.2.2.2.1; omega) (by have := S.2.2.2.2.2.1; omega) hdg (kk pg e R s m args below meth c Z ad0 n0 hC hE ad H locs cells slots ls S (vs_c trivial (vs_t (vs_t V))))
theorem v_mmin {idx : Nat} {x y : Int32} (hln : Cond.methodLink own idx Lib.Math.min.name ∈ lw_all) (hd : 1 ≤ d) (hdg : decode cc pc = .ok (.invokestatic idx, 3)) (kk : Vv G d own nm cc nL ret mc ms Q (pc + 3) l (.int (if y < x then y else x) :: st) h) (hcat : (st.map fun v => v.category).sum ≤ 8 := by exact Nat.le_of_ble_eq_true rfl) : Vv G d own nm cc nL ret mc ms Q pc l (.int y :: .int x :: st) h := fun pg e R s m args below meth c Z ad0 n0 hC hE ad H locs cells slots ls S V =>
  va_mmin hC.1 hC.2.1 (hC.2.2.1.trans (st_has S).1.symm) hC.2.2.2.1 (hC.2.2.2.2.1 _ hln) (hC.2.2.2.2.1 _ q571) (hC.2.2.2.2.1 _ q129) (hC.2.2.2.2.1 _ q572) (by have := hC.2.2.2.2.2.2.2.1; omega) (by rw [ct_cv]; have := hC.2.2.2.2.2.2.2.2.1; omega) (by have := S.2.2.2.2.1; omega) (by have := S.2.2.2.2.2.1; omega) hdg (kk pg e R s m args below meth c Z ad0 n0 hC hE ad H locs cells slots ls S (vs_c trivial (vs_t (vs_t V))))
/-- WHAT A CALL OF x ON THE OBJECT AT b RUNS: some method of its class, with this contract -/
def DP_ (G : Gv) (dc : Nat) (h : AH) (b : Nat) (x : MethodName) (rety : Option FieldType) (As : List Value) (n mcc msc : Nat) (Qy : Option Value → AH → Prop) : Prop := ∃ (ci : Nat) (C : String) (T : u_T) (N : Nat) (y : MethodName) (cy : ByteArray) (nLy : Nat), hp_K h b = (ci, 0) ∧ ci < 100 ∧ clA[ci]? = some (C, T, N) ∧ mt_ y cy nLy rety n ∧ x.desc = y.desc ∧ Cond.selects C x y ∈ lw_all ∧ Cond.instanceMethod y ∈ lw_all ∧ Ctr G dc y cy nLy rety (.ref b :: As) h mcc msc Qy
/-- where the named method is declared -/
def dl_ (x : MethodName) (owner : String) : Prop := Cond.sameMethod x.cls owner x.name x.desc ∈ lw_all ∧ (owner ≠ "java/lang/invoke/MethodHandle" ∧ owner ≠ "java/lang/invoke/VarHandle") ∧ (Cond.declares ⟨owner, x.name, x.desc⟩ ∈ nw_all ∨ (Cond.instanceMethod ⟨owner, x.name, x.desc⟩ ∈ lw_all ∧ ∃ b m r, Cond.code ⟨owner, x.name, x.desc⟩ b m r ∈ lw_all))
theorem v_callU {x : MethodName} {owner : String} {idx n dc mcc msc b : Nat} {rety : Option FieldType} {As stk : List Value} {Qy : Option Value → AH → Prop} (hdl : dl_ x owner) (hln : Cond.methodLink own idx x ∈ lw_all) (hdg : decode cc pc = .ok (.invokevirtual idx, 3)) (hc : DP_ G dc h b x rety As n mcc msc Qy) (hd : dc + 1 ≤ d) (kk : ∀ r h1, Qy r h1 → rt_ok rety r → Vv G d own nm cc nL ret mc ms Q (pc + 3) l (r.toList ++ st) h1) (hst : stk = As.reverse ++ .ref b :: st := by rfl) (hn : As.length = n := by rfl) (hcat : (st.map fun v => v.category).sum ≤ 8 := by exact Nat.le_of_ble_eq_true rfl) : Vv G d own nm cc nL ret (mcc + mc) (msc + ms) Q pc l stk h := fun pg e R s m args below meth c Z ad0 n0 hC hE ad H locs cells slots ls S V => by
  obtain ⟨V1, V2⟩ := st_vi hst V
  obtain ⟨ci, C, T, N, y, cy, nLy, hK, hci, hcl, ⟨m1, m2, m3, m4, m5, m6⟩, hxd, hsel, hin, hc⟩ := hc
  obtain ⟨d1, d2, d3⟩ := hdl
  have hts := hC.2.2.2.2.1
  rw [st_map hst]
  have hdcl : va_Decl s ⟨owner, x.name, x.desc⟩ := by
    rcases d3 with d3 | ⟨d3, b0, m0, r0, d4⟩
    · exact va_Decl.abs (hC.2.2.2.2.2.1.2.1 _ d3)
    · exact va_Decl.of (hts _ d3) (hts _ d4)
  have hG := lw_meth m1
  have hcm : Cond.code y cy nLy rety ∈ ws_ y cy nLy rety := List.mem_cons_self
  refine v_beh hC hE S V2 (va_runU (C := C) (owner := owner) (rm := rm_ dc mcc msc) (n := n) ⟨hC.1, hC.2.1, hC.2.2.1, hC.2.2.2.1, hts⟩ (hc ad) ⟨⟨rfl, rfl, ?_, ?_, pay_in hts hG, hcm⟩, hts _ m1, hts _ m2, d2, fun sig hs => ?_, hts _ hln, hts _ d1, hdcl, hts _ hsel, hts _ hin⟩ ⟨pre_blind, rc_at hC.2.2.2.2.2.1 S.1 hK hci hcl, fun U hU hW => pre_at hC.2.2.2.2.2.1 S.1 V1 hU hW⟩ rfl (by rw [List.length_map]; exact hn) (st_has S).1 rfl (lv_room (by rw [ct_cv]; exact hcat)) hdg ⟨by have := S.2.2.2.2.1; omega, by have := S.2.2.2.2.2.1; omega⟩) kk
  · have := hC.2.2.2.2.2.2.2.1; show dc + 1 ≤ _; omega
  · have := hC.2.2.2.2.2.2.2.2.1; show 8 + (nLy + 11) + 60 * dc ≤ _; omega
  · rw [hxd] at hs
    rw [hs] at m6
    exact (Option.some.inj m6).symm
theorem v_zU {x : MethodName} {owner : String} {idx n dc b : Nat} {rety : Option FieldType} {As stk : List Value} {Qy : Option Value → AH → Prop} (hdl : dl_ x owner) (hln : Cond.methodLink own idx x ∈ lw_all) (hdg : decode cc pc = .ok (.invokevirtual idx, 3)) (hc : DP_ G dc h b x rety As n 0 0 Qy) (hd : dc + 1 ≤ d) (kk : ∀ r h1, Qy r h1 → rt_ok rety r → Vv G d own nm cc nL ret mc ms Q (pc + 3) l (r.toList ++ st) h1) (hst : stk = As.reverse ++ .ref b :: st := by rfl) (hn : As.length = n := by rfl) (hcat : (st.map fun v => v.category).sum ≤ 8 := by exact Nat.le_of_ble_eq_true rfl) : Vv G d own nm cc nL ret mc ms Q pc l stk h := v_less (Nat.le_of_eq (Nat.zero_add mc)) (Nat.le_of_eq (Nat.zero_add ms)) (v_callU hdl hln hdg hc hd kk hst hn hcat)
theorem v_pU {x : MethodName} {owner : String} {idx n dc b : Nat} {rety : Option FieldType} {As stk : List Value} {v : Value} (hdl : dl_ x owner) (hln : Cond.methodLink own idx x ∈ lw_all) (hdg : decode cc pc = .ok (.invokevirtual idx, 3)) (hc : DP_ G dc h b x rety As n 0 0 (Pu h v)) (hd : dc + 1 ≤ d) (kk : Vv G d own nm cc nL ret mc ms Q (pc + 3) l (v :: st) h) (hst : stk = As.reverse ++ .ref b :: st := by rfl) (hn : As.length = n := by rfl) (hcat : (st.map fun v => v.category).sum ≤ 8 := by exact Nat.le_of_ble_eq_true rfl) : Vv G d own nm cc nL ret mc ms Q pc l stk h := v_zU hdl hln hdg hc hd (fun r h1 q _ => by obtain ⟨rfl, rfl⟩ := q; exact kk) hst hn hcat
end XR2
