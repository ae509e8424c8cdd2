set_option maxRecDepth 100000
/-- the mirror of Object[] stands at place 27 -/
def gm_ok (G : Gv) : Prop := va_Mi "[Ljava/lang/Object;" (gv_x G 27) (gv_s G)
section XR
variable {G : Gv} {d : Nat} {own nm : String} {cc : ByteArray} {nL : Nat} {ret : Option FieldType} {mc ms : Nat} {Q : Option Value → AH → Prop} {pc : Nat} {l : List (Nat × Value)} {st : List Value} {h : AH}
theorem v_acmpE {p : Nat} {off : Int} {tgt : Nat} (hdg : decode cc pc = .ok (.if_acmp .ne off, 3)) (ht : (pc : Int) + off = (tgt : Int)) (kk : Vv G d own nm cc nL ret mc ms Q (pc + 3) l st h) : Vv G d own nm cc nL ret mc ms Q pc l (.ref p :: .ref p :: st) h := fun pg e R s m args below meth c Z ad0 n0 hC hE ad H locs cells slots ls S V =>
  lv_acmp_ne (rx := some (ad p)) (ry := some (ad p)) hC.1 hC.2.1 hdg ht (fun z => absurd rfl z) (fun _ => kk pg e R s m args below meth c Z ad0 n0 hC hE ad H locs cells slots ls S (vs_t (vs_t V)))
theorem v_ldcM {idx : Nat} (hM : gm_ok G) (hcl : Cond.classLink own idx "[Ljava/lang/Object;" ∈ lw_all) (hdg : decode cc pc = .ok (.ldc idx, 2)) (kk : Vv G d own nm cc nL ret mc ms Q (pc + 2) l (.ref 27 :: st) h) : Vv G d own nm cc nL ret mc ms Q pc l st h := fun pg e R s m args below meth c Z ad0 n0 hC hE ad H locs cells slots ls S V => by
  have k9 := kk pg e R s m args below meth c Z ad0 n0 hC hE ad H locs cells slots ls S (vs_c (show 27 < hp_n h from by have := S.1.2.2.2.2.1.1; omega) V)
  have k8 : W pg (gv_l G) e R s m args below meth c H locs cells slots Z (F0 m (pc + 2) ls (.ref (ad 27) :: st.map (cv_ ad))) := k9
  rw [S.1.2.2.2.2.2 27 (by decide)] at k8
  exact va_ldcM hC.1 hC.2.1 hC.2.2.2.1 (hC.2.2.2.2.1 _ hcl) (va_Mi.moved (cx_al hC) hM) hdg k8
/-- an array of Objects stands in the heap -/
theorem oa_at {s : State} {ad : Nat → Nat} {H : Heap} {p n : Nat} (hev : ev_ok G s) (hok : hp_ok G ad h H) (hK : hp_K h p = (107, n)) : ∃ cell : Cell, H[ad p]? = some cell ∧ cell.vm.isStatics = false ∧ s.vm.findClass "[Ljava/lang/Object;" = some cell.cls := by
  obtain ⟨g1, g2, he⟩ := aa_at (ad := ad) (tc := gv_t G) (t := 7) hok.2.2.2.2.1 hK (by omega)
  refine ⟨_, hok.1 (p - 30) _ he, rfl, ?_⟩
  exact va_nmO (hev.1.2 7 _ (show (ty_A (gv_t G))[7]? = some (gv_t G 7, .object "java/lang/Object") from rfl)).2 (by decide)
theorem v_getC {idx p n : Nat} (hM : gm_ok G) (hK : hp_K h p = (107, n)) (hln : Cond.methodLink own idx ⟨"java/lang/Object", "getClass", "()Ljava/lang/Class;"⟩ ∈ lw_all) (hd : 1 ≤ d) (hdg : decode cc pc = .ok (.invokevirtual idx, 3)) (kk : Vv G d own nm cc nL ret mc ms Q (pc + 3) l (.ref 27 :: st) h) (hcat : (st.map fun v => v.category).sum ≤ 8 := by exact Nat.le_of_ble_eq_true rfl) : Vv G d own nm cc nL ret mc ms Q pc l (.ref p :: st) h := fun pg e R s m args below meth c Z ad0 n0 hC hE ad H locs cells slots ls S V => by
  have k9 := kk pg e R s m args below meth c Z ad0 n0 hC hE ad H locs cells slots ls S (vs_c (show 27 < hp_n h from by have := S.1.2.2.2.2.1.1; omega) (vs_t V))
  have k8 : W pg (gv_l G) e R s m args below meth c H locs cells slots Z (F0 m (pc + 3) ls (.ref (ad 27) :: st.map (cv_ ad))) := k9
  rw [S.1.2.2.2.2.2 27 (by decide)] at k8
  have hts := hC.2.2.2.2.1
  have hdl : (Cond.declares ⟨"java/lang/Object", "getClass", "()Ljava/lang/Class;"⟩).before args s = true := va_Nw.use rfl (hC.2.2.2.2.2.1.2.1 _ (nw_m q2267 rfl))
  exact va_getC hC.1 hC.2.1 (hC.2.2.1.trans (st_has S).1.symm) hC.2.2.2.1 (hts _ hln) hdl (hts _ q2266) (hts _ q539) (hts _ q564) (va_Mi.moved (cx_al hC) hM) (oa_at hC.2.2.2.2.2.1 S.1 hK) (by have := hC.2.2.2.2.2.2.2.1; omega) (by rw [ct_cv]; have := hC.2.2.2.2.2.2.2.2.1; omega) hdg k8
/-- checkcast of an array of Objects -/
theorem v_castA {idx p n : Nat} (hK : hp_K h p = (107, n)) (hcl : Cond.classLink own idx "[Ljava/lang/Object;" ∈ lw_all) (hdg : decode cc pc = .ok (.checkcast idx, 3)) (kk : Vv G d own nm cc nL ret mc ms Q (pc + 3) l (.ref p :: st) h) : Vv G d own nm cc nL ret mc ms Q pc l (.ref p :: st) h := fun pg e R s m args below meth c Z ad0 n0 hC hE ad H locs cells slots ls S V => by
  obtain ⟨g1, g2, he⟩ := aa_at (ad := ad) (tc := gv_t G) (t := 7) S.1.2.2.2.2.1 hK (by omega)
  exact va_castA hC.1 hC.2.1 hC.2.2.2.1 (hC.2.2.2.2.1 _ hcl) S.1.1 (p - 30) he (va_nmO (hC.2.2.2.2.2.1.1.2 7 _ (show (ty_A (gv_t G))[7]? = some (gv_t G 7, .object "java/lang/Object") from rfl)).2 (by decide)) hdg (kk pg e R s m args below meth c Z ad0 n0 hC hE ad H locs cells slots ls S V)
/-- checkcast of an object, to a class that it is of -/
theorem v_cast {idx p ci N : Nat} {C to : String} {T : u_T} (hK : hp_K h p = (ci, 0)) (hci : ci < 100) (hcc : clA[ci]? = some (C, T, N)) (hca : Cond.castable C to ∈ nw_all) (hcl : Cond.classLink own idx to ∈ lw_all) (hdg : decode cc pc = .ok (.checkcast idx, 3)) (kk : Vv G d own nm cc nL ret mc ms Q (pc + 3) l (.ref p :: st) h) : Vv G d own nm cc nL ret mc ms Q pc l (.ref p :: st) h := fun pg e R s m args below meth c Z ad0 n0 hC hE ad H locs cells slots ls S V =>
  va_castY hC.1 hC.2.1 hC.2.2.2.1 (hC.2.2.2.2.1 _ hcl) (hC.2.2.2.2.2.1.2.1 _ hca) (rc_at hC.2.2.2.2.2.1 S.1 hK hci hcc) hdg (kk pg e R s m args below meth c Z ad0 n0 hC hE ad H locs cells slots ls S V)
theorem v_instY {idx p ci N : Nat} {C to : String} {T : u_T} (hK : hp_K h p = (ci, 0)) (hci : ci < 100) (hcc : clA[ci]? = some (C, T, N)) (hca : Cond.castable C to ∈ nw_all) (hcl : Cond.classLink own idx to ∈ lw_all) (hdg : decode cc pc = .ok (.instanceof idx, 3)) (kk : Vv G d own nm cc nL ret mc ms Q (pc + 3) l (.int 1 :: st) h) : Vv G d own nm cc nL ret mc ms Q pc l (.ref p :: st) h := fun pg e R s m args below meth c Z ad0 n0 hC hE ad H locs cells slots ls S V =>
  va_instY hC.1 hC.2.1 hC.2.2.2.1 (hC.2.2.2.2.1 _ hcl) (hC.2.2.2.2.2.1.2.1 _ hca) (rc_at hC.2.2.2.2.2.1 S.1 hK hci hcc) hdg (kk pg e R s m args below meth c Z ad0 n0 hC hE ad H locs cells slots ls S (vs_c trivial (vs_t V)))
/-- an object of some class, for arrays of Objects -/
def ob_ok (h : AH) (z : Nat) : Prop := ∃ c C T N, hp_K h z = (c, 0) ∧ c < 100 ∧ clA[c]? = some (C, T, N) ∧ Cond.castable C "java/lang/Object" ∈ nw_all
theorem ob_any {s : State} {ad : Nat → Nat} {H : Heap} {z : Nat} (hev : ev_ok G s) (hok : hp_ok G ad h H) (a : ob_ok h z) : va_Any "java/lang/Object" s H (ad z) := by
  obtain ⟨c, C, T, N, hK, hc, hcl, hca⟩ := a
  obtain ⟨q1, q2⟩ := kd_in hok.2.2.2.2.1 hK (by show c ≠ 999; omega)
  exact va_rAny hev.1 hok.1 (q0 := z - 30) (by rw [wd_at q1 q2, ce_obj hK hc hcl]) hcl (fun comp c0 z1 z2 => vb_asgC (hev.2.1 _ hca) comp c0 z1 z2)
theorem kd_RA {p : Nat} {f : Nat → Option Nat} (hk : kd_ok h) (hf : ∀ k y, f k = some y → y < hp_n h) : kd_ok (up_RA h p f) := by
  refine ⟨hk.1, hk.2.1, fun q j y hq e => ?_⟩
  have e : (if q = p then f j else hp_R h q j) = some y := e
  by_cases z : q = p
  · rw [if_pos z] at e; exact hf j y e
  · rw [if_neg z] at e; exact hk.2.2 q j y hq e
/-- the first n references of an array of Objects are copied into another one -/
theorem v_cpR {idx p q n0 n1 n : Nat} {i0 i1 i2 : Int32} (h0 : i0 = nI 0) (h1 : i1 = nI 0) (h2 : i2 = nI n) (hln : Cond.methodLink own idx arraycopyName ∈ lw_all) (hKp : hp_K h p = (107, n0)) (hKq : hp_K h q = (107, n1)) (hn0 : n ≤ n0) (hn1 : n ≤ n1) (hnn : n < 2 ^ 31) (hel : ∀ i, i < n → ∀ z, hp_R h p i = some z → ob_ok h z) (hd : 1 ≤ d) (hdg : decode cc pc = .ok (.invokestatic idx, 3)) (kk : Vv G d own nm cc nL ret mc ms Q (pc + 3) l st (up_RA h q (fun k => if k < n then hp_R h p k else hp_R h q k))) (hcat : (st.map fun v => v.category).sum ≤ 8 := by exact Nat.le_of_ble_eq_true rfl) : Vv G d own nm cc nL ret mc ms Q pc l (.int i2 :: .int i1 :: .ref q :: .int i0 :: .ref p :: st) h := fun pg e R s m args below meth c Z ad0 n9 hC hE ad H locs cells slots ls S V => by
  subst h0; subst h1; subst h2
  have hts := hC.2.2.2.2.1
  have hev := hC.2.2.2.2.2.1
  obtain ⟨g1, g2, he⟩ := aa_at (ad := ad) (tc := gv_t G) (t := 7) S.1.2.2.2.2.1 hKp (by omega)
  obtain ⟨f1, f2, hf⟩ := aa_at (ad := ad) (tc := gv_t G) (t := 7) S.1.2.2.2.2.1 hKq (by omega)
  have hty : (ty_A (gv_t G))[7]? = some (gv_t G 7, .object "java/lang/Object") := rfl
  have c0 : (nI 0).toNatClampNeg = 0 := nI_clamp (by decide)
  have cn : (nI n).toNatClampNeg = n := nI_clamp hnn
  have hx9 : ce_ ad (gv_t G) (up_RA h q (fun k => if k < n then hp_R h p k else hp_R h q k)) q = (ad q, .inl (gv_t G 7, n1, .inr (.inr (.inr (.inr (va_cpy (fun i => (hp_R h p i).map ad) (fun i => (hp_R h q i).map ad) (nI 0).toNatClampNeg (nI 0).toNatClampNeg (nI n).toNatClampNeg)))))) := by
    rw [ce_arr (h := up_RA h q (fun k => if k < n then hp_R h p k else hp_R h q k)) (t := 7) (n := n1) hKq]
    unfold ar_c
    rw [if_neg (by omega), if_neg (by omega), c0, cn]
    refine congrArg (fun z => (ad q, Sum.inl (gv_t G 7, n1, Sum.inr (Sum.inr (Sum.inr (Sum.inr z)))))) (funext fun k => ?_)
    show Option.map ad (if q = q then (if k < n then hp_R h p k else hp_R h q k) else _) = va_cpy _ _ 0 0 n k
    unfold va_cpy
    rw [if_pos rfl]
    by_cases z : k < n
    · rw [if_pos z, if_pos (by omega), show 0 + (k - 0) = k by omega]
    · rw [if_neg z, if_neg (by omega)]
  have hw : nativeFrameWords "java/lang/System" "arraycopy" 5 + 11 ≤ 50 := by decide
  refine va_copyM hC.1 hC.2.1 (hC.2.2.1.trans (st_has S).1.symm) hC.2.2.2.1 (hts _ hln) (hts _ q575) (hts _ q574) (hts _ q131) hev.1 S.1.1 S.1.2.1 S.2.2.2.1 (p - 30) (q - 30) 7 7 he hf hty hty (sp := nI 0) (dp := nI 0) (n := nI n) (nI_pos (by decide)) (nI_pos (by decide)) (nI_pos hnn) (by rw [c0, cn]; omega) (by rw [c0, cn]; omega) (fun i hi y hy => ?_) (by have := hC.2.2.2.2.2.2.2.1; omega) (by rw [ct_cv]; have := hC.2.2.2.2.2.2.2.2.1; omega) hdg (fun H1 locs1 z1 z2 z3 => ?_)
  · rw [cn] at hi
    rw [c0, Nat.zero_add] at hy
    cases hz : hp_R h p i with
    | none => rw [hz] at hy; cases hy
    | some z =>
      rw [hz] at hy
      cases hy
      exact ob_any hev S.1 (hel i hi z hz)
  · exact kk pg e R s m args below meth c Z ad0 n9 hC hE ad H1 locs1 cells slots ls (st_put S hC.2.2.2.2.2.2.2.2.2.1 rfl f1 sm_RA hx9.symm (kd_RA S.1.2.2.2.2.1 (fun k y e9 => by
      by_cases z : k < n
      · rw [if_pos z] at e9; exact S.1.2.2.2.2.1.2.2 p k y g2 e9
      · rw [if_neg z] at e9; exact S.1.2.2.2.2.1.2.2 q k y f2 e9)) z1 z2 z3 hC.2.2.2.2.2.2.2.2.2.2) (vs_t (vs_t (vs_t (vs_t (vs_t V)))))
end XR
