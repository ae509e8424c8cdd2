set_option maxRecDepth 100000
section H2
variable {G : Gv} {d : Nat} {own nm : String} {cc : ByteArray} {nL : Nat} {ret : Option FieldType} {mc ms : Nat} {Q : Option Value → AH → Prop} {pc : Nat} {l : List (Nat × Value)} {st : List Value} {h : AH}
theorem ob_Ine {ad : Nat → Nat} {T : u_T} {p k j : Nat} {x : Int32} (hj : j ≠ k) : ob_v ad (up_I h p k x) p T j = ob_v ad h p T j := by
  have e : hp_I (up_I h p k x) p j = hp_I h p j := by rw [hp_I_I]; exact if_neg (fun z => hj z.2)
  unfold ob_v
  rw [e]; rfl
theorem ob_Lne {ad : Nat → Nat} {T : u_T} {p k j : Nat} {x : Int64} (hj : j ≠ k) : ob_v ad (up_L h p k x) p T j = ob_v ad h p T j := by
  have e : hp_L (up_L h p k x) p j = hp_L h p j := by rw [hp_L_L]; exact if_neg (fun z => hj z.2)
  unfold ob_v
  rw [e]; rfl
theorem ob_Rne {ad : Nat → Nat} {T : u_T} {p k j : Nat} {x : Option Nat} (hj : j ≠ k) : ob_v ad (up_R h p k x) p T j = ob_v ad h p T j := by
  have e : hp_R (up_R h p k x) p j = hp_R h p j := by rw [hp_R_R]; exact if_neg (fun z => hj z.2)
  unfold ob_v
  rw [e]; rfl
theorem v_putI {idx ci k p : Nat} {dc : String} {fin nst : Bool} {x : Int32} (hf : fd_ own idx ci k "I" fin dc nst) (hfin : fin = false ∨ (fin = true ∧ nm = "<init>" ∧ dc = own ∧ nst = false)) (hdg : decode cc pc = .ok (.putfield idx, 3)) (hK : hp_K h p = (ci, 0)) (kk : Vv G d own nm cc nL ret mc ms Q (pc + 3) l st (up_I h p k x)) : Vv G d own nm cc nL ret mc ms Q pc l (.int x :: .ref p :: st) h :=
  v_putf (v := .int x) (ty := .int) (h' := up_I h p k x) hf hfin hdg hK (by decide +kernel) (fun _ => rfl) (fun _ => rfl) rfl rfl sm_I (fun ad T e => by unfold ob_v; rw [e, if_pos (by decide), hp_I_I, if_pos ⟨rfl, rfl⟩]; rfl) (fun ad T j hj => ob_Ine hj) (fun hk _ => hk) kk
theorem v_putL {idx ci k p : Nat} {dc : String} {fin nst : Bool} {x : Int64} (hf : fd_ own idx ci k "J" fin dc nst) (hfin : fin = false ∨ (fin = true ∧ nm = "<init>" ∧ dc = own ∧ nst = false)) (hdg : decode cc pc = .ok (.putfield idx, 3)) (hK : hp_K h p = (ci, 0)) (kk : Vv G d own nm cc nL ret mc ms Q (pc + 3) l st (up_L h p k x)) : Vv G d own nm cc nL ret mc ms Q pc l (.long x :: .ref p :: st) h :=
  v_putf (v := .long x) (ty := .long) (h' := up_L h p k x) hf hfin hdg hK (by decide +kernel) (fun _ => rfl) (fun _ => rfl) rfl rfl sm_L (fun ad T e => by unfold ob_v; rw [e, if_neg (by decide), if_pos (by decide), hp_L_L, if_pos ⟨rfl, rfl⟩]; rfl) (fun ad T j hj => ob_Lne hj) (fun hk _ => hk) kk
theorem kd_R {p k : Nat} {o : Option Nat} (hk : kd_ok h) (ho : ∀ y, o = some y → y < hp_n h) : kd_ok (up_R h p k o) := by
  refine ⟨hk.1, hk.2.1, fun q j y hq e => ?_⟩
  rw [hp_R_R] at e
  by_cases z : q = p ∧ j = k
  · rw [if_pos z] at e; exact ho y e
  · rw [if_neg z] at e; exact hk.2.2 q j y hq e
theorem v_putR {idx ci k p x : Nat} {desc dc : String} {fin nst : Bool} {ty : FieldType} (hf : fd_ own idx ci k desc fin dc nst) (hfin : fin = false ∨ (fin = true ∧ nm = "<init>" ∧ dc = own ∧ nst = false)) (hdg : decode cc pc = .ok (.putfield idx, 3)) (hK : hp_K h p = (ci, 0)) (hd : parseFieldDescriptor desc = some ty) (hty : ty.isReference = true) (hd2 : fc_d desc = 2) (kk : Vv G d own nm cc nL ret mc ms Q (pc + 3) l st (up_R h p k (some x))) : Vv G d own nm cc nL ret mc ms Q pc l (.ref x :: .ref p :: st) h :=
  v_putf (v := .ref x) (ty := ty) (h' := up_R h p k (some x)) hf hfin hdg hK hd (fun _ => by cases ty <;> first | rfl | cases hty) (fun _ => by cases ty <;> first | rfl | cases hty) rfl rfl sm_R (fun ad T e => by unfold ob_v; rw [e, hd2, if_neg (by decide), if_neg (by decide), hp_R_R, if_pos ⟨rfl, rfl⟩]; rfl) (fun ad T j hj => ob_Rne hj) (fun hk hv => kd_R hk (fun y e => by cases e; exact hv)) kk
theorem v_putZ {idx ci k p : Nat} {desc dc : String} {fin nst : Bool} {ty : FieldType} (hf : fd_ own idx ci k desc fin dc nst) (hfin : fin = false ∨ (fin = true ∧ nm = "<init>" ∧ dc = own ∧ nst = false)) (hdg : decode cc pc = .ok (.putfield idx, 3)) (hK : hp_K h p = (ci, 0)) (hd : parseFieldDescriptor desc = some ty) (hty : ty.isReference = true) (hd2 : fc_d desc = 2) (kk : Vv G d own nm cc nL ret mc ms Q (pc + 3) l st (up_R h p k none)) : Vv G d own nm cc nL ret mc ms Q pc l (.null :: .ref p :: st) h :=
  v_putf (v := .null) (ty := ty) (h' := up_R h p k none) hf hfin hdg hK hd (fun _ => by cases ty <;> first | rfl | cases hty) (fun _ => by cases ty <;> first | rfl | cases hty) rfl rfl sm_R (fun ad T e => by unfold ob_v; rw [e, hd2, if_neg (by decide), if_neg (by decide), hp_R_R, if_pos ⟨rfl, rfl⟩]; rfl) (fun ad T j hj => ob_Rne hj) (fun hk hv => kd_R hk (fun y e => by cases e)) kk
theorem wd_arr {ad : Nat → Nat} {tc : Nat → ClassId} {p t n : Nat} (hk : kd_ok h) (hK : hp_K h p = (100 + t, n)) (ht : t < 800) : 30 ≤ p ∧ p < hp_n h ∧ (wd_ ad tc h)[p - 30]? = some (ad p, .inl (tc t, ar_c ad h p t n)) := by
  obtain ⟨g1, g2⟩ := kd_in hk hK (by show 100 + t ≠ 999; omega)
  exact ⟨g1, g2, by rw [wd_at g1 g2, ce_arr hK]⟩
theorem nI_tn {j n : Nat} (hj : j < n) (hn : n < 2 ^ 31) : (nI j).toNatClampNeg = j := nI_clamp (by omega)
theorem v_iald {p n j : Nat} {i : Int32} (hdg : decode cc pc = .ok (.iaload, 1)) (hK : hp_K h p = (100 + 0, n)) (hi : i = nI j) (hj : j < n) (kk : Vv G d own nm cc nL ret mc ms Q (pc + 1) l (.int (hp_I h p j) :: st) h) (hn : n < 2 ^ 31 := by decide) : Vv G d own nm cc nL ret mc ms Q pc l (.int i :: .ref p :: st) h := fun pg e R s m args below meth c Z ad0 n0 hC hE ad H locs cells slots ls S V => by
  obtain ⟨-, -, he⟩ := wd_arr (ad := ad) (tc := gv_t G) S.1.2.2.2.2.1 hK (by decide)
  subst hi
  have k9 := kk pg e R s m args below meth c Z ad0 n0 hC hE ad H locs cells slots ls S (vs_c trivial (vs_t (vs_t V)))
  refine va_iald hC.1 hC.2.1 hC.2.2.2.2.2.1.1 S.1.1 (p - 30) 0 he rfl (vp_in_nI hj hn) hdg ?_
  rw [nI_tn hj hn]
  exact k9
theorem v_zald {p n j : Nat} {i : Int32} (hdg : decode cc pc = .ok (.baload, 1)) (hK : hp_K h p = (100 + 1, n)) (hi : i = nI j) (hj : j < n) (kk : Vv G d own nm cc nL ret mc ms Q (pc + 1) l (.int (hp_I h p j) :: st) h) (hn : n < 2 ^ 31 := by decide) : Vv G d own nm cc nL ret mc ms Q pc l (.int i :: .ref p :: st) h := fun pg e R s m args below meth c Z ad0 n0 hC hE ad H locs cells slots ls S V => by
  obtain ⟨-, -, he⟩ := wd_arr (ad := ad) (tc := gv_t G) S.1.2.2.2.2.1 hK (by decide)
  subst hi
  have k9 := kk pg e R s m args below meth c Z ad0 n0 hC hE ad H locs cells slots ls S (vs_c trivial (vs_t (vs_t V)))
  refine va_zald hC.1 hC.2.1 hC.2.2.2.2.2.1.1 S.1.1 (p - 30) 1 he rfl (vp_in_nI hj hn) hdg ?_
  rw [nI_tn hj hn]
  exact k9
theorem v_bald {p n j : Nat} {i : Int32} (hdg : decode cc pc = .ok (.baload, 1)) (hK : hp_K h p = (100 + 2, n)) (hi : i = nI j) (hj : j < n) (kk : Vv G d own nm cc nL ret mc ms Q (pc + 1) l (.int (hp_I h p j) :: st) h) (hn : n < 2 ^ 31 := by decide) : Vv G d own nm cc nL ret mc ms Q pc l (.int i :: .ref p :: st) h := fun pg e R s m args below meth c Z ad0 n0 hC hE ad H locs cells slots ls S V => by
  obtain ⟨-, -, he⟩ := wd_arr (ad := ad) (tc := gv_t G) S.1.2.2.2.2.1 hK (by decide)
  subst hi
  have k9 := kk pg e R s m args below meth c Z ad0 n0 hC hE ad H locs cells slots ls S (vs_c trivial (vs_t (vs_t V)))
  refine va_bald hC.1 hC.2.1 hC.2.2.2.2.2.1.1 S.1.1 (p - 30) 2 he rfl (vp_in_nI hj hn) hdg ?_
  rw [nI_tn hj hn]
  exact k9
theorem v_lald {p n j : Nat} {i : Int32} (hdg : decode cc pc = .ok (.laload, 1)) (hK : hp_K h p = (100 + 3, n)) (hi : i = nI j) (hj : j < n) (kk : Vv G d own nm cc nL ret mc ms Q (pc + 1) l (.long (hp_L h p j) :: st) h) (hn : n < 2 ^ 31 := by decide) : Vv G d own nm cc nL ret mc ms Q pc l (.int i :: .ref p :: st) h := fun pg e R s m args below meth c Z ad0 n0 hC hE ad H locs cells slots ls S V => by
  obtain ⟨-, -, he⟩ := wd_arr (ad := ad) (tc := gv_t G) S.1.2.2.2.2.1 hK (by decide)
  subst hi
  have k9 := kk pg e R s m args below meth c Z ad0 n0 hC hE ad H locs cells slots ls S (vs_c trivial (vs_t (vs_t V)))
  refine va_lald hC.1 hC.2.1 hC.2.2.2.2.2.1.1 S.1.1 (p - 30) 3 he rfl (vp_in_nI hj hn) hdg ?_
  rw [nI_tn hj hn]
  exact k9
theorem up_Iu (h : AH) (p k : Nat) (v : Int32) : hp_I (up_I h p k v) p = upd (hp_I h p) k v := funext fun j => by
  rw [hp_I_I]
  by_cases e : j = k
  · rw [if_pos ⟨rfl, e⟩]; show _ = (if j = k then v else _); rw [if_pos e]
  · rw [if_neg (fun z => e z.2)]; show _ = (if j = k then v else _); rw [if_neg e]
theorem up_Lu (h : AH) (p k : Nat) (v : Int64) : hp_L (up_L h p k v) p = vp_updL (hp_L h p) k v := funext fun j => by
  rw [hp_L_L]
  by_cases e : j = k
  · rw [if_pos ⟨rfl, e⟩]; show _ = (if j = k then v else _); rw [if_pos e]
  · rw [if_neg (fun z => e z.2)]; show _ = (if j = k then v else _); rw [if_neg e]
theorem v_iast {p n j : Nat} {i x : Int32} (hdg : decode cc pc = .ok (.iastore, 1)) (hK : hp_K h p = (100 + 0, n)) (hi : i = nI j) (hj : j < n)  (kk : Vv G d own nm cc nL ret mc ms Q (pc + 1) l st (up_I h p j (x))) (hn : n < 2 ^ 31 := by decide) : Vv G d own nm cc nL ret mc ms Q pc l (.int x :: .int i :: .ref p :: st) h := fun pg e R s m args below meth c Z ad0 n0 hC hE ad H locs cells slots ls S V => by
  obtain ⟨g1, -, he⟩ := wd_arr (ad := ad) (tc := gv_t G) S.1.2.2.2.2.1 hK (by decide)
  subst hi
  have hx9 : ce_ ad (gv_t G) (up_I h p j (x)) p = (ad p, .inl (gv_t G 0, (n, .inl (upd (hp_I h p) j (x))))) := by
    rw [ce_arr (h := up_I h p j (x)) (t := 0) (n := n) hK]; unfold ar_c; rw [if_pos (by decide), up_Iu]
  refine va_iast hC.1 hC.2.1 hC.2.2.2.2.2.1.1 S.1.1 S.1.2.1 S.2.2.2.1 (p - 30) 0 he rfl (vp_in_nI hj hn) hdg (fun H1 locs1 => ?_)
  rw [nI_tn hj hn]
  intro q1 q2 q3
  exact kk pg e R s m args below meth c Z ad0 n0 hC hE ad H1 locs1 cells slots ls (st_put S hC.2.2.2.2.2.2.2.2.2.1 rfl g1 sm_I hx9.symm S.1.2.2.2.2.1 q1 q2 q3 hC.2.2.2.2.2.2.2.2.2.2) (vs_t (vs_t (vs_t V)))
theorem nar_z {x : Int32} (h : x = 0 ∨ x = 1) : vp_nar .boolean x = x := by rcases h with rfl | rfl <;> decide
theorem nar_b (x : Int32) : vp_nar .byte x = x.toInt8.toInt32 := vp_nar_byte x
theorem v_zast {p n j : Nat} {i x : Int32} (hdg : decode cc pc = .ok (.bastore, 1)) (hK : hp_K h p = (100 + 1, n)) (hi : i = nI j) (hj : j < n) (hx : x = 0 ∨ x = 1) (kk : Vv G d own nm cc nL ret mc ms Q (pc + 1) l st (up_I h p j (x))) (hn : n < 2 ^ 31 := by decide) : Vv G d own nm cc nL ret mc ms Q pc l (.int x :: .int i :: .ref p :: st) h := fun pg e R s m args below meth c Z ad0 n0 hC hE ad H locs cells slots ls S V => by
  obtain ⟨g1, -, he⟩ := wd_arr (ad := ad) (tc := gv_t G) S.1.2.2.2.2.1 hK (by decide)
  subst hi
  have hx9 : ce_ ad (gv_t G) (up_I h p j (x)) p = (ad p, .inl (gv_t G 1, (n, .inl (upd (hp_I h p) j (x))))) := by
    rw [ce_arr (h := up_I h p j (x)) (t := 1) (n := n) hK]; unfold ar_c; rw [if_pos (by decide), up_Iu]
  refine va_zast hC.1 hC.2.1 hC.2.2.2.2.2.1.1 S.1.1 S.1.2.1 S.2.2.2.1 (p - 30) 1 he rfl (vp_in_nI hj hn) hdg (fun H1 locs1 => ?_)
  rw [nI_tn hj hn, nar_z hx]
  intro q1 q2 q3
  exact kk pg e R s m args below meth c Z ad0 n0 hC hE ad H1 locs1 cells slots ls (st_put S hC.2.2.2.2.2.2.2.2.2.1 rfl g1 sm_I hx9.symm S.1.2.2.2.2.1 q1 q2 q3 hC.2.2.2.2.2.2.2.2.2.2) (vs_t (vs_t (vs_t V)))
theorem v_bast {p n j : Nat} {i x : Int32} (hdg : decode cc pc = .ok (.bastore, 1)) (hK : hp_K h p = (100 + 2, n)) (hi : i = nI j) (hj : j < n)  (kk : Vv G d own nm cc nL ret mc ms Q (pc + 1) l st (up_I h p j (x.toInt8.toInt32))) (hn : n < 2 ^ 31 := by decide) : Vv G d own nm cc nL ret mc ms Q pc l (.int x :: .int i :: .ref p :: st) h := fun pg e R s m args below meth c Z ad0 n0 hC hE ad H locs cells slots ls S V => by
  obtain ⟨g1, -, he⟩ := wd_arr (ad := ad) (tc := gv_t G) S.1.2.2.2.2.1 hK (by decide)
  subst hi
  have hx9 : ce_ ad (gv_t G) (up_I h p j (x.toInt8.toInt32)) p = (ad p, .inl (gv_t G 2, (n, .inl (upd (hp_I h p) j (x.toInt8.toInt32))))) := by
    rw [ce_arr (h := up_I h p j (x.toInt8.toInt32)) (t := 2) (n := n) hK]; unfold ar_c; rw [if_pos (by decide), up_Iu]
  refine va_bast hC.1 hC.2.1 hC.2.2.2.2.2.1.1 S.1.1 S.1.2.1 S.2.2.2.1 (p - 30) 2 he rfl (vp_in_nI hj hn) hdg (fun H1 locs1 => ?_)
  rw [nI_tn hj hn, nar_b]
  intro q1 q2 q3
  exact kk pg e R s m args below meth c Z ad0 n0 hC hE ad H1 locs1 cells slots ls (st_put S hC.2.2.2.2.2.2.2.2.2.1 rfl g1 sm_I hx9.symm S.1.2.2.2.2.1 q1 q2 q3 hC.2.2.2.2.2.2.2.2.2.2) (vs_t (vs_t (vs_t V)))
theorem v_last {p n j : Nat} {i : Int32} {x : Int64} (hdg : decode cc pc = .ok (.lastore, 1)) (hK : hp_K h p = (100 + 3, n)) (hi : i = nI j) (hj : j < n) (kk : Vv G d own nm cc nL ret mc ms Q (pc + 1) l st (up_L h p j x)) (hn : n < 2 ^ 31 := by decide) : Vv G d own nm cc nL ret mc ms Q pc l (.long x :: .int i :: .ref p :: st) h := fun pg e R s m args below meth c Z ad0 n0 hC hE ad H locs cells slots ls S V => by
  obtain ⟨g1, -, he⟩ := wd_arr (ad := ad) (tc := gv_t G) S.1.2.2.2.2.1 hK (by decide)
  subst hi
  have hx9 : ce_ ad (gv_t G) (up_L h p j x) p = (ad p, .inl (gv_t G 3, (n, .inr (.inl (vp_updL (hp_L h p) j x))))) := by
    rw [ce_arr (h := up_L h p j x) (t := 3) (n := n) hK]; unfold ar_c; rw [if_neg (by decide), if_pos (by decide), up_Lu]
  refine va_last hC.1 hC.2.1 hC.2.2.2.2.2.1.1 S.1.1 S.1.2.1 S.2.2.2.1 (p - 30) 3 he rfl (vp_in_nI hj hn) hdg (fun H1 locs1 => ?_)
  rw [nI_tn hj hn]
  intro q1 q2 q3
  exact kk pg e R s m args below meth c Z ad0 n0 hC hE ad H1 locs1 cells slots ls (st_put S hC.2.2.2.2.2.2.2.2.2.1 rfl g1 sm_L hx9.symm S.1.2.2.2.2.1 q1 q2 q3 hC.2.2.2.2.2.2.2.2.2.2) (vs_t (vs_t (vs_t V)))
theorem v_alen {p t n : Nat} {v : Int32} (hdg : decode cc pc = .ok (.arraylength, 1)) (hK : hp_K h p = (100 + t, n)) (ht : t < 9) (hv : nI n = v) (kk : Vv G d own nm cc nL ret mc ms Q (pc + 1) l (.int v :: st) h) : Vv G d own nm cc nL ret mc ms Q pc l (.ref p :: st) h := fun pg e R s m args below meth c Z ad0 n0 hC hE ad H locs cells slots ls S V => by
  obtain ⟨-, -, he⟩ := wd_arr (ad := ad) (tc := gv_t G) S.1.2.2.2.2.1 hK (by omega)
  have h1 : (ar_c ad h p t n).1 = n := by unfold ar_c; split <;> (try split) <;> rfl
  obtain ⟨ty, hty⟩ : ∃ ty, (ty_A (gv_t G))[t]? = some (gv_t G t, ty) := by
    rcases (show t = 0 ∨ t = 1 ∨ t = 2 ∨ t = 3 ∨ t = 4 ∨ t = 5 ∨ t = 6 ∨ t = 7 ∨ t = 8 by omega) with q | q | q | q | q | q | q | q | q <;> subst q <;> exact ⟨_, rfl⟩
  exact va_alen hC.1 hC.2.1 hC.2.2.2.2.2.1.1 S.1.1 (p - 30) t he hty (by rw [h1]; exact hv) hdg (kk pg e R s m args below meth c Z ad0 n0 hC hE ad H locs cells slots ls S (vs_c trivial (vs_t V)))
/-- an element of an array of references -/
theorem v_aald {p t n j : Nat} {i : Int32} {v : Value} (hdg : decode cc pc = .ok (.aaload, 1)) (hK : hp_K h p = (100 + t, n)) (ht : 4 ≤ t ∧ t < 9) (hi : i = nI j) (hj : j < n) (hv : va_rf (hp_R h p j) = v) (kk : Vv G d own nm cc nL ret mc ms Q (pc + 1) l (v :: st) h) (hn : n < 2 ^ 31) : Vv G d own nm cc nL ret mc ms Q pc l (.int i :: .ref p :: st) h := fun pg e R s m args below meth c Z ad0 n0 hC hE ad H locs cells slots ls S V => by
  obtain ⟨g1, g2, he⟩ := wd_arr (ad := ad) (tc := gv_t G) S.1.2.2.2.2.1 hK (by omega)
  subst hi
  have hcv : va_rf ((hp_R h p j).map ad) = cv_ ad v := by rw [← hv]; cases hp_R h p j <;> rfl
  have hvi : vi_ (hp_n h) v := by
    rw [← hv]
    cases e9 : hp_R h p j with
    | none => trivial
    | some y => exact S.1.2.2.2.2.1.2.2 p j y g2 e9
  have k9 := kk pg e R s m args below meth c Z ad0 n0 hC hE ad H locs cells slots ls S (vs_c hvi (vs_t (vs_t V)))
  obtain ⟨ty, hty, href⟩ : ∃ ty, (ty_A (gv_t G))[t]? = some (gv_t G t, ty) ∧ ty.isReference = true := by
    rcases (show t = 4 ∨ t = 5 ∨ t = 6 ∨ t = 7 ∨ t = 8 by omega) with q | q | q | q | q <;> subst q <;> exact ⟨_, rfl, rfl⟩
  have har : ar_c ad h p t n = (n, .inr (.inr (.inr (.inr (fun i => (hp_R h p i).map ad))))) := by
    unfold ar_c; rw [if_neg (by omega), if_neg (by omega)]
  rw [har] at he
  have hlt : (nI j).toNatClampNeg < n := by rw [nI_tn hj hn]; exact hj
  refine W.aald (v := cv_ ad v) (ty := ty) hC.1 hC.2.1 (S.1.1 (p - 30) _ he) ((hC.2.2.2.2.2.1.1.2 t _ hty).1 n (fun j => va_rf ((hp_R h p j).map ad))) href (fun q => by cases q) (by show ¬ (_ ∨ (arrV _ _ _).slots.size ≤ _); rw [arrV_size]; exact vp_in_nI hj hn) ?_ rfl rfl hdg k9
  show (arrV _ _ _).slots[_]? = _
  rw [arrV_read _ _ hlt, nI_tn hj hn, hcv]
theorem up_Ru (h : AH) (p k : Nat) (v : Option Nat) (ad : Nat → Nat) : (fun i => (hp_R (up_R h p k v) p i).map ad) = va_up (fun i => (hp_R h p i).map ad) k (v.map ad) := funext fun j => by
  show (hp_R (up_R h p k v) p j).map ad = (if j = k then _ else _)
  rw [hp_R_R]
  by_cases e : j = k
  · rw [if_pos ⟨rfl, e⟩, if_pos e]
  · rw [if_neg (fun z => e z.2), if_neg e]
theorem aa_at {ad : Nat → Nat} {tc : Nat → ClassId} {p t n : Nat} (hk : kd_ok h) (hK : hp_K h p = (100 + t, n)) (ht : 4 ≤ t ∧ t < 9) : 30 ≤ p ∧ p < hp_n h ∧ (wd_ ad tc h)[p - 30]? = some (ad p, .inl (tc t, n, .inr (.inr (.inr (.inr (fun i => (hp_R h p i).map ad)))))) := by
  obtain ⟨g1, g2, he⟩ := wd_arr (ad := ad) (tc := tc) hk hK (by omega)
  refine ⟨g1, g2, ?_⟩
  rw [he]; unfold ar_c; rw [if_neg (by omega), if_neg (by omega)]
/-- an object put into an array of references (of Objects, of Sittings) -/
theorem v_aast {p t n j q cq N : Nat} {i : Int32} {E C : String} {T : u_T} (hdg : decode cc pc = .ok (.aastore, 1)) (hK : hp_K h p = (100 + t, n)) (ht : (t = 7 ∧ E = "java/lang/Object") ∨ (t = 8 ∧ E = "RapTable$Sitting")) (hi : i = nI j) (hj : j < n) (hq : hp_K h q = (cq, 0)) (hcq : cq < 100) (hc : clA[cq]? = some (C, T, N)) (hca : C = E ∨ Cond.castable C E ∈ nw_all) (kk : Vv G d own nm cc nL ret mc ms Q (pc + 1) l st (up_R h p j (some q))) (hn : n < 2 ^ 31) : Vv G d own nm cc nL ret mc ms Q pc l (.ref q :: .int i :: .ref p :: st) h := fun pg e R s m args below meth c Z ad0 n0 hC hE ad H locs cells slots ls S V => by
  have ht9 : 4 ≤ t ∧ t < 9 := by omega
  obtain ⟨g1, g2, he⟩ := aa_at (ad := ad) (tc := gv_t G) S.1.2.2.2.2.1 hK ht9
  obtain ⟨q1, q2⟩ := st_in S hq (by show cq ≠ 999; omega)
  have heq : (wd_ ad (gv_t G) h)[q - 30]? = some (ad q, .inr (cq, (List.range N).map (ob_v ad h q T))) := by rw [wd_at q1 q2, ce_obj hq hcq hc]
  subst hi
  have hev := hC.2.2.2.2.2.1
  have hty : (ty_A (gv_t G))[t]? = some (gv_t G t, .object E) := by rcases ht with ⟨rfl, rfl⟩ | ⟨rfl, rfl⟩ <;> rfl
  have hx9 : ce_ ad (gv_t G) (up_R h p j (some q)) p = (ad p, .inl (gv_t G t, n, .inr (.inr (.inr (.inr (va_up (fun i => (hp_R h p i).map ad) j (some (ad q)))))))) := by
    rw [ce_arr (h := up_R h p j (some q)) (t := t) (n := n) hK]; unfold ar_c; rw [if_neg (by omega), if_neg (by omega), up_Ru]; rfl
  have hany : va_Any E s H (ad q) := va_rAny hev.1 S.1.1 heq hc (fun comp c0 z1 z2 => by
    rcases hca with e9 | e9
    · subst e9; exact vb_asgS comp c0 z1 z2
    · exact vb_asgC (hev.2.1 _ e9) comp c0 z1 z2)
  refine va_astqM hC.1 hC.2.1 hev.1 S.1.1 S.1.2.1 S.2.2.2.1 (p - 30) t he hty hany (vp_in_nI hj hn) hdg (fun H1 locs1 => ?_)
  rw [nI_tn hj hn]
  intro z1 z2 z3
  exact kk pg e R s m args below meth c Z ad0 n0 hC hE ad H1 locs1 cells slots ls (st_put S hC.2.2.2.2.2.2.2.2.2.1 rfl g1 sm_R hx9.symm (kd_R S.1.2.2.2.2.1 (fun y e9 => by cases e9; exact q2)) z1 z2 z3 hC.2.2.2.2.2.2.2.2.2.2) (vs_t (vs_t (vs_t V)))
theorem v_aastN {p t n j : Nat} {i : Int32} {E : String} (hdg : decode cc pc = .ok (.aastore, 1)) (hK : hp_K h p = (100 + t, n)) (ht : (t = 7 ∧ E = "java/lang/Object") ∨ (t = 8 ∧ E = "RapTable$Sitting")) (hi : i = nI j) (hj : j < n) (kk : Vv G d own nm cc nL ret mc ms Q (pc + 1) l st (up_R h p j none)) (hn : n < 2 ^ 31) : Vv G d own nm cc nL ret mc ms Q pc l (.null :: .int i :: .ref p :: st) h := fun pg e R s m args below meth c Z ad0 n0 hC hE ad H locs cells slots ls S V => by
  have ht9 : 4 ≤ t ∧ t < 9 := by omega
  obtain ⟨g1, g2, he⟩ := aa_at (ad := ad) (tc := gv_t G) S.1.2.2.2.2.1 hK ht9
  subst hi
  have hev := hC.2.2.2.2.2.1
  have hty : (ty_A (gv_t G))[t]? = some (gv_t G t, .object E) := by rcases ht with ⟨rfl, rfl⟩ | ⟨rfl, rfl⟩ <;> rfl
  have hx9 : ce_ ad (gv_t G) (up_R h p j none) p = (ad p, .inl (gv_t G t, n, .inr (.inr (.inr (.inr (va_up (fun i => (hp_R h p i).map ad) j none)))))) := by
    rw [ce_arr (h := up_R h p j none) (t := t) (n := n) hK]; unfold ar_c; rw [if_neg (by omega), if_neg (by omega), up_Ru]; rfl
  refine va_astqN hC.1 hC.2.1 hev.1 S.1.1 S.1.2.1 S.2.2.2.1 (p - 30) t he hty (vp_in_nI hj hn) hdg (fun H1 locs1 => ?_)
  rw [nI_tn hj hn]
  intro z1 z2 z3
  exact kk pg e R s m args below meth c Z ad0 n0 hC hE ad H1 locs1 cells slots ls (st_put S hC.2.2.2.2.2.2.2.2.2.1 rfl g1 sm_R hx9.symm (kd_R S.1.2.2.2.2.1 (fun y e9 => by cases e9)) z1 z2 z3 hC.2.2.2.2.2.2.2.2.2.2) (vs_t (vs_t (vs_t V)))
/-! new cells -/
def ad_n (ad : Nat → Nat) (n a : Nat) : Nat → Nat := fun q => if q = n then a else ad q
theorem cv_n {ad : Nat → Nat} {n a : Nat} {v : Value} (hv : vi_ n v) : cv_ (ad_n ad n a) v = cv_ ad v := by
  cases v with
  | ref p =>
    show Value.ref (if p = n then a else ad p) = Value.ref (ad p)
    rw [if_neg (Nat.ne_of_lt hv)]
  | _ => rfl
theorem cv_same {ad ad' : Nat → Nat} {n : Nat} {v : Value} (ha : ∀ q, q < n → ad' q = ad q) (hv : vi_ n v) : cv_ ad' v = cv_ ad v := by
  cases v with
  | ref p =>
    show Value.ref (ad' p) = Value.ref (ad p)
    rw [ha p hv]
  | _ => rfl
theorem cvs_same {ad ad' : Nat → Nat} {n : Nat} {st : List Value} (ha : ∀ q, q < n → ad' q = ad q) (hv : ∀ v ∈ st, vi_ n v) : st.map (cv_ ad') = st.map (cv_ ad) := List.map_congr_left fun v h => cv_same ha (hv v h)
theorem cps_same {ad ad' : Nat → Nat} {n : Nat} {l : List (Nat × Value)} (ha : ∀ q, q < n → ad' q = ad q) (hv : ∀ q ∈ l, vi_ n q.2) : l.map (cp_ ad') = l.map (cp_ ad) := List.map_congr_left fun q h => by unfold cp_; rw [cv_same ha (hv q h)]
theorem vi_up {n n' : Nat} {v : Value} (hn : n ≤ n') (h : vi_ n v) : vi_ n' v := by
  cases v with
  | ref p => exact Nat.lt_of_lt_of_le h hn
  | _ => trivial
theorem kd_new {t : Nat × Nat} (hk : kd_ok h) : kd_ok (hp_new h t) := by
  obtain ⟨h1, h2, h3⟩ := hk
  have hz : hp_n (hp_new h t) = hp_n h + 1 := rfl
  refine ⟨by rw [hz]; omega, fun p hp => ?_, fun q k y hq e => ?_⟩
  · rw [hz] at hp
    show (if p = h.1 then t else h.2.1 p).1 = 999
    rw [if_neg (by show ¬ p = hp_n h; omega)]
    exact h2 p (by omega)
  · rw [hz] at hq ⊢
    have e' : (if q = h.1 then none else h.2.2.2.2 q k) = some y := e
    by_cases z : q = h.1
    · rw [if_pos z] at e'; cases e'
    · rw [if_neg z] at e'
      have : q < hp_n h := by have : q ≠ hp_n h := z; omega
      have := h3 q k y this e'
      omega
theorem st_new {R : Room} {s : State} {ad0 : Nat → Nat} {n0 : Nat} {ad : Nat → Nat} {H H1 : Heap} {locs : List Loc} {cells slots N a : Nat} {ls : Array Slot} {t : Nat × Nat} {x : Nat × va_E} (S : st_ok G nL (mc + 1) (ms + N) R s ad0 n0 ad H locs cells slots ls l h) (hs0 : (gv_s G).heap.size ≤ s.heap.size) (hol : ∀ q, q < (gv_s G).heap.size → s.heap[q]? = (gv_s G).heap[q]?) (hx : x = ce_ (ad_n ad (hp_n h) a) (gv_t G) (hp_new h t) (hp_n h))
    (hP : va_P (gv_D G) clA (wd_ ad (gv_t G) h ++ [x]) H1) (hD : va_D (gv_A G) (wd_ ad (gv_t G) h ++ [x])) (hS : va_S (gv_A G) s.heap H1 locs) : st_ok G nL mc ms R s ad0 n0 (ad_n ad (hp_n h) a) H1 locs (cells + 1) (slots + N) ls l (hp_new h t) := by
  obtain ⟨⟨-, -, S3, S4, S5, S6⟩, T2, T3, T4, T5, T6, T7, T8⟩ := S
  have hz : hp_n (hp_new h t) = hp_n h + 1 := rfl
  subst hx
  have ha : ∀ q, q < hp_n h → ad_n ad (hp_n h) a q = ad q := fun q hq => by show (if _ then _ else _) = _; rw [if_neg (by omega)]
  rw [wd_new (ad' := ad_n ad (hp_n h) a) S5.1 S5.2.2 rfl] at hP hD
  refine ⟨⟨hP, hD, fun q hq => ?_, Nat.le_trans hs0 hS.1, kd_new S5, fun q hq => ?_⟩, by rw [hz]; omega, fun q hq => ?_, hS, by omega, by omega, by rw [cps_same ha T8]; exact T7, fun q hq => vi_up (by rw [hz]; omega) (T8 q hq)⟩
  · rw [hS.2.1 q (Nat.lt_of_lt_of_le hq hs0) (fun z => by unfold gv_A at z; omega)]
    exact hol q hq
  · rw [ha q (by have := S5.1; omega)]; exact S6 q hq
  · rw [ha q (by omega)]; exact T3 q hq
theorem va_newS {p : Program} {l : Launch} {e : Env} {R : Room} {s : State} {m : MethodId} {args : Array Value} {below : List Frame} {meth : Method} {c0 : Code} {H H0 : Heap} {locs : List Loc} {cells slots : Nat} {Q : State → Prop} {cc : ByteArray} {pc : Nat} {ls : Array Slot} {rest : List Value} {D : va_G} {cl : List vw_C} {A : Nat → Prop} {tys : List (ClassId × FieldType)} {ws : va_W} (hexec : p.tables.exec = Jvm.exec) (hb : c0.code = cc) {own C : String} {T : u_T} {N NS ci index : Nat} {Ts : List Cond} (hts : ∀ w ∈ Ts, w.before args s = true) (hin : ∀ w ∈ u_ws C T N, w ∈ Ts) (ty : Nat → FieldType) (hty : ∀ k, k < N → parseFieldDescriptor (T k).2.2.1 = some (ty k)) (hown : s.vm.findClass own = some m.cls) (hcl : (Cond.classLink own index C).before args s = true) (hinst : (Cond.instantiable C NS).before args s = true) (hini : (Cond.initialized C).before args s = true)
    (hK : va_K D cl tys s) (hP : va_P D cl ws H) (hD : va_D A ws) (hS : va_S A H0 H locs) (hA : ∀ q, H0.size ≤ q → A q) (hc : cl[ci]? = some (C, T, N)) {fs : List Value} (hfs : ∀ j, j < N → defaultValue (ty j) = vp_V fs j) (hcells : cells + 1 ≤ R.cells) (hslots : slots + NS ≤ R.slots) (hdg : decode cc pc = .ok (.new index, 3))
    (kk : ∀ (q : Nat) (H1 : Heap), va_P D cl (ws ++ [(q, .inr (ci, fs))]) H1 → va_D A (ws ++ [(q, .inr (ci, fs))]) → va_S A H0 H1 locs →
      W p l e R s m args below meth c0 H1 locs (cells + 1) (slots + NS) Q (F0 m (pc + 3) ls (.ref q :: rest))) : W p l e R s m args below meth c0 H locs cells slots Q (F0 m pc ls rest) := by
  have hKn := hK.1 ci _ hc
  refine W.newcK hexec hb hown hcl hinst hini rfl hdg hcells hslots hKn.2.1 rfl fun H1 kC hkC e1 z1 o1 => ?_
  have hk : ∀ (k : Nat) (x : Nat × va_E), ws[k]? = some x → H1[x.1]? = H[x.1]? := fun k x hx => o1 x.1 ((hP k x hx).lt)
  refine kk H.size H1 ((hP.kept hk).app (fun k x hx => ?_)) (hD.push hP rfl (hA _ hS.1)) ⟨Nat.le_trans hS.1 (by omega), fun x h1 h2 => (o1 x (Nat.lt_of_lt_of_le h1 hS.1)).trans (hS.2.1 x h1 h2), hS.2.2⟩
  have hz : k < 1 := (List.getElem?_eq_some_iff.mp hx).1
  rw [show k = 0 by omega] at hx
  cases hx
  exact ⟨_, hc, (u_born ty hts hin hKn hkC e1 hty).to hfs⟩
theorem v_new {idx ci N NS : Nat} {C : String} {T : u_T} (hck : ck_ ci C T N) (hci : ci < 100) (hcl : Cond.classLink own idx C ∈ lw_all) (hinst : Cond.instantiable C NS ∈ lw_all) (hini : Cond.initialized C ∈ lw_all) (hdg : decode cc pc = .ok (.new idx, 3)) (kk : Vv G d own nm cc nL ret mc ms Q (pc + 3) l (.ref (hp_n h) :: st) (hp_new h (ci, 0))) : Vv G d own nm cc nL ret (mc + 1) (ms + NS) Q pc l st h := fun pg e R s m args below meth c Z ad0 n0 hC hE ad H locs cells slots ls S V => by
  obtain ⟨hc1, hc2, ⟨ty0, hty, hdf⟩, -⟩ := hck
  have hts := hC.2.2.2.2.1
  have hz : hp_n (hp_new h (ci, 0)) = hp_n h + 1 := rfl
  refine va_newS (NS := NS) (ci := ci) (fs := (List.range N).map (fun k => if fc_d (T k).2.2.1 = 0 then Value.int 0 else if fc_d (T k).2.2.1 = 1 then Value.long 0 else Value.null)) hC.1 hC.2.1 hts hc2 ty0 hty hC.2.2.2.1 (hts _ hcl) (hts _ hinst) (hts _ hini) hC.2.2.2.2.2.1.1 S.1.1 S.1.2.1 S.2.2.2.1 (fun q hq => Nat.le_trans hC.2.2.2.2.2.2.2.2.2.1 hq) hc1 (fun j hj => ?_) (by have := S.2.2.2.2.1; omega) (by have := S.2.2.2.2.2.1; omega) hdg (fun q H1 z1 z2 z3 => ?_)
  · show _ = ((List.range N).map _).getD j Value.null
    rw [List.getD_eq_getElem?_getD, List.getElem?_map, List.getElem?_range hj]
    exact hdf j hj
  · have hx : (q, Sum.inr (ci, (List.range N).map (fun k => if fc_d (T k).2.2.1 = 0 then Value.int 0 else if fc_d (T k).2.2.1 = 1 then Value.long 0 else Value.null))) = ce_ (ad_n ad (hp_n h) q) (gv_t G) (hp_new h (ci, 0)) (hp_n h) := by
      rw [ce_obj (show hp_K (hp_new h (ci, 0)) (hp_n h) = (ci, 0) from if_pos rfl) hci hc1]
      have ha : ad_n ad (hp_n h) q (hp_n h) = q := if_pos rfl
      have hob : ob_v (ad_n ad (hp_n h) q) (hp_new h (ci, 0)) (hp_n h) T = (fun k => if fc_d (T k).2.2.1 = 0 then Value.int 0 else if fc_d (T k).2.2.1 = 1 then Value.long 0 else Value.null) := funext fun k => by
        unfold ob_v
        rw [show hp_I (hp_new h (ci, 0)) (hp_n h) k = 0 from if_pos rfl, show hp_L (hp_new h (ci, 0)) (hp_n h) k = 0 from if_pos rfl, show hp_R (hp_new h (ci, 0)) (hp_n h) k = none from if_pos rfl]
        rfl
      rw [ha, hob]
    have k9 := kk pg e R s m args below meth c Z ad0 n0 hC hE (ad_n ad (hp_n h) q) H1 locs (cells + 1) (slots + NS) ls (st_new S hC.2.2.2.2.2.2.2.2.2.1 hC.2.2.2.2.2.2.2.2.2.2 hx z1 z2 z3) (vs_c (by show hp_n h < hp_n h + 1; omega) (fun v hv => vi_up (by rw [hz]; omega) (V v hv)))
    have e1 : (Value.ref (hp_n h) :: st).map (cv_ (ad_n ad (hp_n h) q)) = Value.ref q :: st.map (cv_ ad) := by
      show Value.ref (if _ then _ else _) :: _ = _
      rw [if_pos rfl, cvs_same (n := hp_n h) (fun x hx => by show (if _ then _ else _) = _; rw [if_neg (by omega)]) V]
    rw [e1] at k9
    exact k9
theorem tc_eq {U : State} {tys : List (ClassId × FieldType)} {tc : Nat → ClassId} {cA : ClassId} {ty : FieldType} {t : Nat} (hK : va_K (gv_D G) clA (ty_A tc ++ [(cA, ty)]) U) (ht : (ty_A tc)[t]? = some (tc t, ty)) : cA = tc t := by
  have h1 := (hK.2 9 (cA, ty) rfl).2
  have h2 := (hK.2 t (tc t, ty) (by rw [List.getElem?_append_left (List.getElem?_eq_some_iff.mp ht).1]; exact ht)).2
  unfold va_RA at h1 h2
  cases ty with
  | object C =>
    obtain ⟨-, -, -, -, -, a1⟩ := h1
    obtain ⟨-, -, -, -, -, a2⟩ := h2
    exact Option.some.inj (a1.symm.trans a2)
  | _ => exact Option.some.inj (h1.symm.trans h2)

theorem v_newI {N : Nat} {i : Int32} (hdg : decode cc pc = .ok (.newarray .int, 2)) (hi : i = nI N) (hN : N < 1000000) (kk : Vv G d own nm cc nL ret mc ms Q (pc + 2) l (.ref (hp_n h) :: st) (hp_new h (100 + 0, N))) : Vv G d own nm cc nL ret (mc + 1) (ms + N) Q pc l (.int i :: st) h := fun pg e R s m args below meth c Z ad0 n0 hC hE ad H locs cells slots ls S V => by
  have hts := hC.2.2.2.2.1
  have hz : hp_n (hp_new h (100 + 0, N)) = hp_n h + 1 := rfl
  subst hi
  refine va_newa (atype := .int) (ty := .int) (N' := N) (a0 := (N, .inl (fun _ => 0))) hC.1 hC.2.1 (hts _ q209) rfl hC.2.2.2.2.2.1.1 S.1.1 S.1.2.1 S.2.2.2.1 (fun q hq => Nat.le_trans hC.2.2.2.2.2.2.2.2.2.1 hq) (fun cA => rfl) (nI_pos (by omega)) (nI_clamp (by omega)) (by show N * 4 ≤ _; omega) (by have := S.2.2.2.2.1; omega) (by have := S.2.2.2.2.2.1; omega) hdg (fun q cA H1 hK1 z1 z2 z3 => ?_)
  have hcA : cA = gv_t G 0 := tc_eq (tys := []) (t := 0) hK1 rfl
  subst hcA
  have hx : (q, Sum.inl (gv_t G 0, (N, .inl (fun _ => 0)))) = ce_ (ad_n ad (hp_n h) q) (gv_t G) (hp_new h (100 + 0, N)) (hp_n h) := by
    rw [ce_arr (show hp_K (hp_new h (100 + 0, N)) (hp_n h) = (100 + 0, N) from if_pos rfl), show ad_n ad (hp_n h) q (hp_n h) = q from if_pos rfl]
    unfold ar_c
    rw [if_pos (by decide)]
    rw [show hp_I (hp_new h (100 + 0, N)) (hp_n h) = (fun _ => 0) from funext fun _ => if_pos rfl]
  have V' := vs_t V
  have k9 := kk pg e R s m args below meth c Z ad0 n0 hC hE (ad_n ad (hp_n h) q) H1 locs (cells + 1) (slots + N) ls (st_new S hC.2.2.2.2.2.2.2.2.2.1 hC.2.2.2.2.2.2.2.2.2.2 hx z1 z2 z3) (vs_c (by show hp_n h < hp_n h + 1; omega) (fun v hv => vi_up (by rw [hz]; omega) (V' v hv)))
  have e1 : (Value.ref (hp_n h) :: st).map (cv_ (ad_n ad (hp_n h) q)) = Value.ref q :: st.map (cv_ ad) := by
    show Value.ref (if _ then _ else _) :: _ = _
    rw [if_pos rfl, cvs_same (n := hp_n h) (fun x hx => by show (if _ then _ else _) = _; rw [if_neg (by omega)]) V']
  rw [e1] at k9
  exact k9
theorem v_newZ {N : Nat} {i : Int32} (hdg : decode cc pc = .ok (.newarray .boolean, 2)) (hi : i = nI N) (hN : N < 1000000) (kk : Vv G d own nm cc nL ret mc ms Q (pc + 2) l (.ref (hp_n h) :: st) (hp_new h (100 + 1, N))) : Vv G d own nm cc nL ret (mc + 1) (ms + N) Q pc l (.int i :: st) h := fun pg e R s m args below meth c Z ad0 n0 hC hE ad H locs cells slots ls S V => by
  have hts := hC.2.2.2.2.1
  have hz : hp_n (hp_new h (100 + 1, N)) = hp_n h + 1 := rfl
  subst hi
  refine va_newa (atype := .boolean) (ty := .boolean) (N' := N) (a0 := (N, .inl (fun _ => 0))) hC.1 hC.2.1 (hts _ q360) rfl hC.2.2.2.2.2.1.1 S.1.1 S.1.2.1 S.2.2.2.1 (fun q hq => Nat.le_trans hC.2.2.2.2.2.2.2.2.2.1 hq) (fun cA => rfl) (nI_pos (by omega)) (nI_clamp (by omega)) (by show N * 1 ≤ _; omega) (by have := S.2.2.2.2.1; omega) (by have := S.2.2.2.2.2.1; omega) hdg (fun q cA H1 hK1 z1 z2 z3 => ?_)
  have hcA : cA = gv_t G 1 := tc_eq (tys := []) (t := 1) hK1 rfl
  subst hcA
  have hx : (q, Sum.inl (gv_t G 1, (N, .inl (fun _ => 0)))) = ce_ (ad_n ad (hp_n h) q) (gv_t G) (hp_new h (100 + 1, N)) (hp_n h) := by
    rw [ce_arr (show hp_K (hp_new h (100 + 1, N)) (hp_n h) = (100 + 1, N) from if_pos rfl), show ad_n ad (hp_n h) q (hp_n h) = q from if_pos rfl]
    unfold ar_c
    rw [if_pos (by decide)]
    rw [show hp_I (hp_new h (100 + 1, N)) (hp_n h) = (fun _ => 0) from funext fun _ => if_pos rfl]
  have V' := vs_t V
  have k9 := kk pg e R s m args below meth c Z ad0 n0 hC hE (ad_n ad (hp_n h) q) H1 locs (cells + 1) (slots + N) ls (st_new S hC.2.2.2.2.2.2.2.2.2.1 hC.2.2.2.2.2.2.2.2.2.2 hx z1 z2 z3) (vs_c (by show hp_n h < hp_n h + 1; omega) (fun v hv => vi_up (by rw [hz]; omega) (V' v hv)))
  have e1 : (Value.ref (hp_n h) :: st).map (cv_ (ad_n ad (hp_n h) q)) = Value.ref q :: st.map (cv_ ad) := by
    show Value.ref (if _ then _ else _) :: _ = _
    rw [if_pos rfl, cvs_same (n := hp_n h) (fun x hx => by show (if _ then _ else _) = _; rw [if_neg (by omega)]) V']
  rw [e1] at k9
  exact k9
theorem v_newB {N : Nat} {i : Int32} (hdg : decode cc pc = .ok (.newarray .byte, 2)) (hi : i = nI N) (hN : N < 1000000) (kk : Vv G d own nm cc nL ret mc ms Q (pc + 2) l (.ref (hp_n h) :: st) (hp_new h (100 + 2, N))) : Vv G d own nm cc nL ret (mc + 1) (ms + N) Q pc l (.int i :: st) h := fun pg e R s m args below meth c Z ad0 n0 hC hE ad H locs cells slots ls S V => by
  have hts := hC.2.2.2.2.1
  have hz : hp_n (hp_new h (100 + 2, N)) = hp_n h + 1 := rfl
  subst hi
  refine va_newa (atype := .byte) (ty := .byte) (N' := N) (a0 := (N, .inl (fun _ => 0))) hC.1 hC.2.1 (hts _ q359) rfl hC.2.2.2.2.2.1.1 S.1.1 S.1.2.1 S.2.2.2.1 (fun q hq => Nat.le_trans hC.2.2.2.2.2.2.2.2.2.1 hq) (fun cA => rfl) (nI_pos (by omega)) (nI_clamp (by omega)) (by show N * 1 ≤ _; omega) (by have := S.2.2.2.2.1; omega) (by have := S.2.2.2.2.2.1; omega) hdg (fun q cA H1 hK1 z1 z2 z3 => ?_)
  have hcA : cA = gv_t G 2 := tc_eq (tys := []) (t := 2) hK1 rfl
  subst hcA
  have hx : (q, Sum.inl (gv_t G 2, (N, .inl (fun _ => 0)))) = ce_ (ad_n ad (hp_n h) q) (gv_t G) (hp_new h (100 + 2, N)) (hp_n h) := by
    rw [ce_arr (show hp_K (hp_new h (100 + 2, N)) (hp_n h) = (100 + 2, N) from if_pos rfl), show ad_n ad (hp_n h) q (hp_n h) = q from if_pos rfl]
    unfold ar_c
    rw [if_pos (by decide)]
    rw [show hp_I (hp_new h (100 + 2, N)) (hp_n h) = (fun _ => 0) from funext fun _ => if_pos rfl]
  have V' := vs_t V
  have k9 := kk pg e R s m args below meth c Z ad0 n0 hC hE (ad_n ad (hp_n h) q) H1 locs (cells + 1) (slots + N) ls (st_new S hC.2.2.2.2.2.2.2.2.2.1 hC.2.2.2.2.2.2.2.2.2.2 hx z1 z2 z3) (vs_c (by show hp_n h < hp_n h + 1; omega) (fun v hv => vi_up (by rw [hz]; omega) (V' v hv)))
  have e1 : (Value.ref (hp_n h) :: st).map (cv_ (ad_n ad (hp_n h) q)) = Value.ref q :: st.map (cv_ ad) := by
    show Value.ref (if _ then _ else _) :: _ = _
    rw [if_pos rfl, cvs_same (n := hp_n h) (fun x hx => by show (if _ then _ else _) = _; rw [if_neg (by omega)]) V']
  rw [e1] at k9
  exact k9
theorem v_newJ {N : Nat} {i : Int32} (hdg : decode cc pc = .ok (.newarray .long, 2)) (hi : i = nI N) (hN : N < 1000000) (kk : Vv G d own nm cc nL ret mc ms Q (pc + 2) l (.ref (hp_n h) :: st) (hp_new h (100 + 3, N))) : Vv G d own nm cc nL ret (mc + 1) (ms + N) Q pc l (.int i :: st) h := fun pg e R s m args below meth c Z ad0 n0 hC hE ad H locs cells slots ls S V => by
  have hts := hC.2.2.2.2.1
  have hz : hp_n (hp_new h (100 + 3, N)) = hp_n h + 1 := rfl
  subst hi
  refine va_newa (atype := .long) (ty := .long) (N' := N) (a0 := (N, .inr (.inl (fun _ => 0)))) hC.1 hC.2.1 (hts _ q431) rfl hC.2.2.2.2.2.1.1 S.1.1 S.1.2.1 S.2.2.2.1 (fun q hq => Nat.le_trans hC.2.2.2.2.2.2.2.2.2.1 hq) (fun cA => rfl) (nI_pos (by omega)) (nI_clamp (by omega)) (by show N * 8 ≤ _; omega) (by have := S.2.2.2.2.1; omega) (by have := S.2.2.2.2.2.1; omega) hdg (fun q cA H1 hK1 z1 z2 z3 => ?_)
  have hcA : cA = gv_t G 3 := tc_eq (tys := []) (t := 3) hK1 rfl
  subst hcA
  have hx : (q, Sum.inl (gv_t G 3, (N, .inr (.inl (fun _ => 0))))) = ce_ (ad_n ad (hp_n h) q) (gv_t G) (hp_new h (100 + 3, N)) (hp_n h) := by
    rw [ce_arr (show hp_K (hp_new h (100 + 3, N)) (hp_n h) = (100 + 3, N) from if_pos rfl), show ad_n ad (hp_n h) q (hp_n h) = q from if_pos rfl]
    unfold ar_c
    rw [if_neg (by decide), if_pos (by decide)]
    rw [show hp_L (hp_new h (100 + 3, N)) (hp_n h) = (fun _ => 0) from funext fun _ => if_pos rfl]
  have V' := vs_t V
  have k9 := kk pg e R s m args below meth c Z ad0 n0 hC hE (ad_n ad (hp_n h) q) H1 locs (cells + 1) (slots + N) ls (st_new S hC.2.2.2.2.2.2.2.2.2.1 hC.2.2.2.2.2.2.2.2.2.2 hx z1 z2 z3) (vs_c (by show hp_n h < hp_n h + 1; omega) (fun v hv => vi_up (by rw [hz]; omega) (V' v hv)))
  have e1 : (Value.ref (hp_n h) :: st).map (cv_ (ad_n ad (hp_n h) q)) = Value.ref q :: st.map (cv_ ad) := by
    show Value.ref (if _ then _ else _) :: _ = _
    rw [if_pos rfl, cvs_same (n := hp_n h) (fun x hx => by show (if _ then _ else _) = _; rw [if_neg (by omega)]) V']
  rw [e1] at k9
  exact k9
theorem v_newA {N idx t : Nat} {i : Int32} {C : String} (ht : (t = 7 ∧ C = "java/lang/Object") ∨ (t = 8 ∧ C = "RapTable$Sitting")) (hcl : Cond.classLink own idx C ∈ lw_all) (hdg : decode cc pc = .ok (.anewarray idx, 3)) (hi : i = nI N) (hN : N < 1000000) (kk : Vv G d own nm cc nL ret mc ms Q (pc + 3) l (.ref (hp_n h) :: st) (hp_new h (100 + t, N))) : Vv G d own nm cc nL ret (mc + 1) (ms + N) Q pc l (.int i :: st) h := fun pg e R s m args below meth c Z ad0 n0 hC hE ad H locs cells slots ls S V => by
  have hts := hC.2.2.2.2.1
  have hz : hp_n (hp_new h (100 + t, N)) = hp_n h + 1 := rfl
  subst hi
  have hao : va_AO C s := hC.2.2.2.2.2.1.2.2.2 C (by rcases ht with ⟨-, rfl⟩ | ⟨-, rfl⟩ <;> decide)
  refine va_newq (N' := N) hC.1 hC.2.1 hC.2.2.2.1 (hts _ hcl) hao hC.2.2.2.2.2.1.1 S.1.1 S.1.2.1 S.2.2.2.1 (fun q hq => Nat.le_trans hC.2.2.2.2.2.2.2.2.2.1 hq) (nI_pos (by omega)) (nI_clamp (by omega)) (by omega) (by have := S.2.2.2.2.1; omega) (by have := S.2.2.2.2.2.1; omega) hdg (fun q cA H1 hK1 z1 z2 z3 => ?_)
  have hcA : cA = gv_t G t := tc_eq (tys := []) (t := t) hK1 (by rcases ht with ⟨rfl, rfl⟩ | ⟨rfl, rfl⟩ <;> rfl)
  subst hcA
  have hx : (q, Sum.inl (gv_t G t, (N, .inr (.inr (.inr (.inr (fun _ => none))))))) = ce_ (ad_n ad (hp_n h) q) (gv_t G) (hp_new h (100 + t, N)) (hp_n h) := by
    rw [ce_arr (show hp_K (hp_new h (100 + t, N)) (hp_n h) = (100 + t, N) from if_pos rfl), show ad_n ad (hp_n h) q (hp_n h) = q from if_pos rfl]
    unfold ar_c
    rw [if_neg (by omega), if_neg (by omega)]
    rw [show (fun i => (hp_R (hp_new h (100 + t, N)) (hp_n h) i).map (ad_n ad (hp_n h) q)) = (fun _ => none) from funext fun k => by rw [show hp_R (hp_new h (100 + t, N)) (hp_n h) k = none from if_pos rfl]; rfl]
  have V' := vs_t V
  have k9 := kk pg e R s m args below meth c Z ad0 n0 hC hE (ad_n ad (hp_n h) q) H1 locs (cells + 1) (slots + N) ls (st_new S hC.2.2.2.2.2.2.2.2.2.1 hC.2.2.2.2.2.2.2.2.2.2 hx z1 z2 z3) (vs_c (by show hp_n h < hp_n h + 1; omega) (fun v hv => vi_up (by rw [hz]; omega) (V' v hv)))
  have e1 : (Value.ref (hp_n h) :: st).map (cv_ (ad_n ad (hp_n h) q)) = Value.ref q :: st.map (cv_ ad) := by
    show Value.ref (if _ then _ else _) :: _ = _
    rw [if_pos rfl, cvs_same (n := hp_n h) (fun x hx => by show (if _ then _ else _) = _; rw [if_neg (by omega)]) V']
  rw [e1] at k9
  exact k9
end H2
