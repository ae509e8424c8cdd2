set_option maxRecDepth 100000
/-- the String constants: class, entry, text, bytes -/
def st_L : List (String × Nat × String × List Nat) := [("RapTableModel", 208, " free move wait dark away swap call ready way memory left right ", [32, 102, 114, 101, 101, 32, 109, 111, 118, 101, 32, 119, 97, 105, 116, 32, 100, 97, 114, 107, 32, 97, 119, 97, 121, 32, 115, 119, 97, 112, 32, 99, 97, 108, 108, 32, 114, 101, 97, 100, 121, 32, 119, 97, 121, 32, 109, 101, 109, 111, 114, 121, 32, 108, 101, 102, 116, 32, 114, 105, 103, 104, 116, 32]), ("RapTable$Reader", 83, "way", [119, 97, 121]), ("RapTable$Reader", 89, "memory", [109, 101, 109, 111, 114, 121]), ("RapTable$Reader", 99, "free", [102, 114, 101, 101]), ("RapTable$Reader", 101, "move", [109, 111, 118, 101]), ("RapTable$Reader", 103, "wait", [119, 97, 105, 116]), ("RapTable$Reader", 105, "dark", [100, 97, 114, 107]), ("RapTable$Reader", 107, "away", [97, 119, 97, 121]), ("RapTable$Reader", 109, "swap", [115, 119, 97, 112]), ("RapTable$Reader", 111, "call", [99, 97, 108, 108]), ("RapTable$Reader", 113, "ready", [114, 101, 97, 100, 121]), ("RapTable$Reader", 95, "left", [108, 101, 102, 116]), ("RapTable$Reader", 97, "right", [114, 105, 103, 104, 116])]
def st_D : String × Nat × String × List Nat := ("", 0, "", [])
def st_b (i : Nat) : List Nat := (st_L.getD i st_D).2.2.2
/-- what the start says of them -/
def gs_ok (G : Gv) : Prop := (∀ i, i < 13 → ((Cond.stringRef (st_L.getD i st_D).1 (st_L.getD i st_D).2.1 (st_L.getD i st_D).2.2.1).before #[] (gv_s G) = true ∧ (Term.string (st_L.getD i st_D).1 (st_L.getD i st_D).2.1).eval #[] (gv_s G) none [] (gv_s G) = some (.ref (gv_x G (1 + i)))) ∧ va_O "java/lang/String" (gv_x G (1 + i)) (gv_A G) (gv_s G) (gv_s G).heap ∧ va_OF "java/lang/String" "value" "[B" (.ref (gv_x G (14 + i))) (gv_x G (1 + i)) (gv_A G) (gv_s G) (gv_s G).heap ∧ va_OF "java/lang/String" "coder" "B" (.int 0) (gv_x G (1 + i)) (gv_A G) (gv_s G) (gv_s G).heap ∧ va_T .byte (gv_x G (14 + i)) (st_b i).length (fun k => .int (nI ((st_b i).getD k 0))) (gv_A G) (gv_s G) (gv_s G).heap) ∧ va_Z "java/lang/String" "COMPACT_STRINGS" "Z" (.int 1) (gv_A G) (gv_s G) (gv_s G).heap ∧ (va_Z "jdk/internal/util/Preconditions" "SIOOBE_FORMATTER" "Ljava/util/function/BiFunction;" .null (gv_A G) (gv_s G) (gv_s G).heap ∨ va_Z "jdk/internal/util/Preconditions" "SIOOBE_FORMATTER" "Ljava/util/function/BiFunction;" (.ref (gv_x G 28)) (gv_A G) (gv_s G) (gv_s G).heap)
theorem st_ok9 : ∀ i, i < 13 → (st_b i).length < 100 ∧ ∀ k, k < (st_b i).length → (st_b i).getD k 0 < 128 := by decide
section STRS
variable {G : Gv} {d : Nat} {own nm : String} {cc : ByteArray} {nL : Nat} {ret : Option FieldType} {mc ms : Nat} {Q : Option Value → AH → Prop} {pc : Nat} {l : List (Nat × Value)} {st : List Value} {h : AH}
theorem cx_al {p : Program} {R : Room} {s : State} {m : MethodId} {args : Array Value} {meth : Method} {c : Code} (hC : cx_ok G d own nm cc nL p R s m args meth c) : (gv_s G).vm.Alike s.vm := hC.2.2.2.2.2.1.2.2.1.alike
theorem cx_hp {p : Program} {R : Room} {s : State} {m : MethodId} {args : Array Value} {meth : Method} {c : Code} (hC : cx_ok G d own nm cc nL p R s m args meth c) : ∀ a : Nat, a < (gv_s G).heap.size → ¬ (gv_A G) a → s.heap[a]? = (gv_s G).heap[a]? := fun a ha _ => hC.2.2.2.2.2.2.2.2.2.2 a ha
/-- ldc of a String constant -/
theorem v_ldcS (i : Nat) {idx : Nat} (hG : gs_ok G) (hi : i < 13) (ho : (st_L.getD i st_D).1 = own) (hx : (st_L.getD i st_D).2.1 = idx) (hdg : decode cc pc = .ok (.ldc idx, 2)) (kk : Vv G d own nm cc nL ret mc ms Q (pc + 2) l (.ref (1 + i) :: st) h) : Vv G d own nm cc nL ret mc ms Q pc l st h := fun pg e R s m args below meth c Z ad0 n0 hC hE ad H locs cells slots ls S V => by
  obtain ⟨⟨g1, g2⟩, -⟩ := hG.1 i hi
  subst ho
  subst hx
  have hW := hC.2.2.2.2.2.1.2.2.1
  have hcur : (gv_s G).vm.findClass (st_L.getD i st_D).1 = some m.cls := by rw [← hW.alike.findClass]; exact hC.2.2.2.1
  have q1 := Cond.stringRef_warmed hW g1
  have q2 := Term.string_eval_warmed hW hcur g1 g2
  have e1 : (Cond.stringRef (st_L.getD i st_D).1 (st_L.getD i st_D).2.1 (st_L.getD i st_D).2.2.1).before args s = true := q1
  have e2 : (Term.string (st_L.getD i st_D).1 (st_L.getD i st_D).2.1).eval args s none [] s = some (.ref (gv_x G (1 + i))) := (Term.string_eval_of_vm (args := #[]) (args' := args) (U := (gv_s G).setVm s.vm) (V := s) rfl).trans q2
  have k9 := kk pg e R s m args below meth c Z ad0 n0 hC hE ad H locs cells slots ls S (vs_c (show 1 + i < hp_n h from by have := S.1.2.2.2.2.1.1; omega) V)
  have ea : ad (1 + i) = gv_x G (1 + i) := S.1.2.2.2.2.2 _ (by omega)
  intro T hT X
  obtain ⟨t, a, b⟩ := k9 T hT X
  refine ⟨t, Stand.ldcString X hC.1 hC.2.2.2.1 e1 e2 (g := F0 m pc ls (st.map (cv_ ad))) rfl (by rw [hC.2.1]; exact hdg) t ?_, b⟩
  have a9 : Steps pg.tables e below (T.setTop (F0 m (pc + 2) ls (.ref (ad (1 + i)) :: st.map (cv_ ad)))) t := a
  rw [ea] at a9
  exact a9
theorem cv_out {ad : Nat → Nat} {v : Value} (ha : ∀ q, q < 30 → ad q = gv_x G q) (hv : ∀ p, v = .ref p → p < 30) : cv_ ad v = cv_ (gv_x G) v := by
  cases v with
  | ref p => exact congrArg Value.ref (ha p (hv p rfl))
  | _ => rfl
theorem vi_out {n : Nat} {v : Value} (hn : 30 ≤ n) (hv : ∀ p, v = .ref p → p < 30) : vi_ n v := by
  cases v with
  | ref p => exact Nat.lt_of_lt_of_le (hv p rfl) hn
  | _ => trivial
/-- getfield of an outside object -/
theorem v_getOF {o n dd : String} {b idx : Nat} {v : Value} (hb : b < 30) (hO : va_OF o n dd (cv_ (gv_x G) v) (gv_x G b) (gv_A G) (gv_s G) (gv_s G).heap) (hln : Cond.fieldLink own idx o n dd ∈ lw_all) (hdg : decode cc pc = .ok (.getfield idx, 3)) (hv : ∀ p, v = .ref p → p < 30) (kk : Vv G d own nm cc nL ret mc ms Q (pc + 3) l (v :: st) h) : Vv G d own nm cc nL ret mc ms Q pc l (.ref b :: st) h := fun pg e R s m args below meth c Z ad0 n0 hC hE ad H locs cells slots ls S V => by
  have k9 := kk pg e R s m args below meth c Z ad0 n0 hC hE ad H locs cells slots ls S (vs_c (vi_out S.1.2.2.2.2.1.1 hv) (vs_t V))
  have e1 : cv_ ad v = cv_ (gv_x G) v := cv_out S.1.2.2.2.2.2 hv
  have k8 : W pg (gv_l G) e R s m args below meth c H locs cells slots Z (F0 m (pc + 3) ls (cv_ ad v :: st.map (cv_ ad))) := k9
  rw [e1] at k8
  show W pg (gv_l G) e R s m args below meth c H locs cells slots Z (F0 m pc ls (.ref (ad b) :: st.map (cv_ ad)))
  rw [S.1.2.2.2.2.2 b hb]
  exact va_getX (N := 1) (v := fun _ => cv_ (gv_x G) v) (ad := fun _ => gv_x G b) (i := 0) hC.1 hC.2.1 (fun _ _ => (va_OF.moved (cx_al hC) hO).kept (cx_hp hC)) (by decide) S.2.2.2.1 hC.2.2.2.1 (hC.2.2.2.2.1 _ hln) (fun x hx => hx) hdg k8
/-- getstatic -/
theorem v_gets {o n dd : String} {idx : Nat} {v : Value} (hZ : va_Z o n dd (cv_ (gv_x G) v) (gv_A G) (gv_s G) (gv_s G).heap) (hln : Cond.fieldLink own idx o n dd ∈ lw_all) (hdg : decode cc pc = .ok (.getstatic idx, 3)) (hv : ∀ p, v = .ref p → p < 30) (kk : Vv G d own nm cc nL ret mc ms Q (pc + 3) l (v :: st) h) : Vv G d own nm cc nL ret mc ms Q pc l st h := fun pg e R s m args below meth c Z ad0 n0 hC hE ad H locs cells slots ls S V => by
  have k9 := kk pg e R s m args below meth c Z ad0 n0 hC hE ad H locs cells slots ls S (vs_c (vi_out S.1.2.2.2.2.1.1 hv) V)
  have e1 : cv_ ad v = cv_ (gv_x G) v := cv_out S.1.2.2.2.2.2 hv
  have k8 : W pg (gv_l G) e R s m args below meth c H locs cells slots Z (F0 m (pc + 3) ls (cv_ ad v :: st.map (cv_ ad))) := k9
  rw [e1] at k8
  exact va_gets hC.1 hC.2.1 ((va_Z.moved (cx_al hC) hZ).kept (cx_hp hC)) S.2.2.2.1 hC.2.2.2.1 (hC.2.2.2.2.1 _ hln) (fun x hx => hx) hdg k8
/-- arraylength of an outside array -/
theorem v_lenO {ty : FieldType} {b n : Nat} {f : Nat → Value} (hb : b < 30) (hT : va_T ty (gv_x G b) n f (gv_A G) (gv_s G) (gv_s G).heap) (hdg : decode cc pc = .ok (.arraylength, 1)) (kk : Vv G d own nm cc nL ret mc ms Q (pc + 1) l (.int (nI n) :: st) h) : Vv G d own nm cc nL ret mc ms Q pc l (.ref b :: st) h := fun pg e R s m args below meth c Z ad0 n0 hC hE ad H locs cells slots ls S V => by
  have k9 := kk pg e R s m args below meth c Z ad0 n0 hC hE ad H locs cells slots ls S (vs_c trivial (vs_t V))
  show W pg (gv_l G) e R s m args below meth c H locs cells slots Z (F0 m pc ls (.ref (ad b) :: st.map (cv_ ad)))
  rw [S.1.2.2.2.2.2 b hb]
  exact va_tlen hC.1 hC.2.1 ((va_T.moved (cx_al hC) hT).kept (cx_hp hC)) S.2.2.2.1 rfl hdg k9
/-- baload of an outside array -/
theorem v_baldO {b n j : Nat} {i : Int32} {f : Nat → Value} {x : Int32} (hb : b < 30) (hT : va_T .byte (gv_x G b) n f (gv_A G) (gv_s G) (gv_s G).heap) (hi : i = nI j) (hj : j < n) (hn : n < 2 ^ 31) (hx : f j = .int x) (hdg : decode cc pc = .ok (.baload, 1)) (kk : Vv G d own nm cc nL ret mc ms Q (pc + 1) l (.int x :: st) h) : Vv G d own nm cc nL ret mc ms Q pc l (.int i :: .ref b :: st) h := fun pg e R s m args below meth c Z ad0 n0 hC hE ad H locs cells slots ls S V => by
  have k9 := kk pg e R s m args below meth c Z ad0 n0 hC hE ad H locs cells slots ls S (vs_c trivial (vs_t (vs_t V)))
  show W pg (gv_l G) e R s m args below meth c H locs cells slots Z (F0 m pc ls (.int i :: .ref (ad b) :: st.map (cv_ ad)))
  rw [S.1.2.2.2.2.2 b hb]
  subst hi
  exact va_tb hC.1 hC.2.1 ((va_T.moved (cx_al hC) hT).kept (cx_hp hC)) S.2.2.2.1 (vp_in_nI hj hn) (by rw [nI_tn hj hn]; exact hx) hdg k9
section CO
variable {idx n dc mcc msc nLy : Nat} {y : MethodName} {cy : ByteArray} {rety : Option FieldType} {As stk : List Value} {Qy : Option Value → AH → Prop} {v : Value}
/-- invokevirtual on an outside object -/
theorem v_callVO {b : Nat} (hb : b < 30) (hO : va_O y.cls (gv_x G b) (gv_A G) (gv_s G) (gv_s G).heap) (hm : mt_ y cy nLy rety n) (hln : Cond.methodLink own idx y ∈ lw_all) (hin : Cond.instanceMethod y ∈ lw_all) (hsel : Cond.selects y.cls y y ∈ lw_all) (hdg : decode cc pc = .ok (.invokevirtual idx, 3)) (hc : Ctr G dc y cy nLy rety (.ref b :: As) h 0 0 (Pu h v)) (hd : dc + 1 ≤ d) (kk : Vv G d own nm cc nL ret mc ms Q (pc + 3) l (v :: st) h) (hst : stk = As.reverse ++ .ref b :: st := by rfl) (hn : As.length = n := by rfl) (hcat : (st.map fun v => v.category).sum ≤ 8 := by exact Nat.le_of_ble_eq_true rfl) : Vv G d own nm cc nL ret mc ms Q pc l stk h := v_less (Nat.le_of_eq (Nat.zero_add mc)) (Nat.le_of_eq (Nat.zero_add ms)) fun pg e R s m args below meth c Z ad0 n0 hC hE ad H locs cells slots ls S V => by
  obtain ⟨V1, V2⟩ := st_vi hst V
  obtain ⟨m1, m2, m3, m4, m5, m6⟩ := hm
  have hts := hC.2.2.2.2.1
  rw [st_map hst]
  refine v_beh hC hE S V2 (va_runV (C := y.cls) (rm := rm_ dc 0 0) (n := n) ⟨hC.1, hC.2.1, hC.2.2.1, hC.2.2.2.1, hts⟩ (hc ad) (cwV n hts (lw_V hln hin hsel m2 m1) rfl rfl rfl ⟨rfl, m4, m5, m6⟩ ⟨?_, ?_⟩) ⟨pre_blind, (by rw [S.1.2.2.2.2.2 b hb]; exact va_Orecv ((va_O.moved (cx_al hC) hO).kept (cx_hp hC)) S.2.2.2.1), fun U hU hW => pre_at hC.2.2.2.2.2.1 S.1 V1 hU hW⟩ rfl (by rw [List.length_map]; exact hn) (st_has S).1 rfl (lv_room (by rw [ct_cv]; exact hcat)) hdg ⟨by have := S.2.2.2.2.1; omega, by have := S.2.2.2.2.2.1; omega⟩) (fun r h1 q _ => by obtain ⟨rfl, rfl⟩ := q; exact kk)
  · have := hC.2.2.2.2.2.2.2.1; show dc + 1 ≤ _; omega
  · have := hC.2.2.2.2.2.2.2.2.1; show 8 + (nLy + 11) + 60 * dc ≤ _; omega
end CO
end STRS
theorem rt_by {x : Int32} (h : x = 0) : rt_ok (some .byte) (some (.int x)) := by subst h; exact rfl
theorem st_c {b : Nat} (h : b < 128) : ((nI b &&& 255).toUInt32 % 65536).toInt32 = nI b ∧ rt_ok (some .char) (some (.int (nI b))) := by
  have k : ∀ b, b < 128 → ((nI b &&& 255).toUInt32 % 65536).toInt32 = nI b ∧ narrow .char (.int (nI b)) = .int (nI b) := by decide +kernel
  exact k b h
theorem c_J8_coder {G : Gv} {h : AH} (hG : gs_ok G) {i : Nat} (hi : i < 13) : Ctr G 1 yJ8_coder cJ8_coder 1 (some .byte) [.ref (1 + i)] h 0 0 (Pu h (.int 0)) := by
  refine ctr_of (own := RJ8) (nm := "coder") (by decide) (Nat.le_of_ble_eq_true rfl) ?_
  refine v_gets (v := .int 1) hG.2.1 q1022 dJ8_coder_0 (fun p hp => by cases hp) ?_
  refine v_if_eq (tgt := 13) dJ8_coder_3 (by decide) (fun b3 => ?_) (fun b3 => ?_)
  · skip
    exact absurd b3 (by decide)
  · skip
    refine v_aload_n dJ8_coder_6 rfl rfl ?_
    refine v_getOF (v := .int 0) (by omega) (hG.1 i hi).2.2.2.1 q2278 dJ8_coder_7 (fun p hp => by cases hp) ?_
    refine v_goto (tgt := 14) dJ8_coder_10 (by decide) ?_
    exact v_reti dJ8_coder_14 (rt_by rfl) (Pu_i rfl)

theorem c_J8_isLatin1 {G : Gv} {h : AH} (hG : gs_ok G) {i : Nat} (hi : i < 13) : Ctr G 1 yJ8_isLatin1 cJ8_isLatin1 1 (some .boolean) [.ref (1 + i)] h 0 0 (Pu h (.int 1)) := by
  refine ctr_of (own := RJ8) (nm := "isLatin1") (by decide) (Nat.le_of_ble_eq_true rfl) ?_
  refine v_gets (v := .int 1) hG.2.1 q1022 dJ8_isLatin1_0 (fun p hp => by cases hp) ?_
  refine v_if_eq (tgt := 17) dJ8_isLatin1_3 (by decide) (fun b3 => ?_) (fun b3 => ?_)
  · skip
    exact absurd b3 (by decide)
  · skip
    refine v_aload_n dJ8_isLatin1_6 rfl rfl ?_
    refine v_getOF (v := .int 0) (by omega) (hG.1 i hi).2.2.2.1 q2278 dJ8_isLatin1_7 (fun p hp => by cases hp) ?_
    refine v_if_ne (tgt := 17) dJ8_isLatin1_10 (by decide) (fun b10 => ?_) (fun b10 => ?_)
    · skip
      exact absurd rfl b10
    · skip
      refine v_iconst (v := 1) dJ8_isLatin1_13 (by decide) ?_
      refine v_goto (tgt := 18) dJ8_isLatin1_14 (by decide) ?_
      exact v_reti dJ8_isLatin1_18 (by first | rfl | exact Or.inr rfl | exact rt_z) (Pu_i rfl)

theorem c_J8_length {G : Gv} {h : AH} (hG : gs_ok G) {i : Nat} (hi : i < 13) : Ctr G 2 yJ8_length cJ8_length 1 (some .int) [.ref (1 + i)] h 0 0 (Pu h (.int (nI (st_b i).length))) := by
  refine ctr_of (own := RJ8) (nm := "length") (by decide) (Nat.le_of_ble_eq_true rfl) ?_
  refine v_aload_n dJ8_length_0 rfl rfl ?_
  refine v_getOF (v := .ref (14 + i)) (by omega) (hG.1 i hi).2.2.1 q2277 dJ8_length_1 (fun p hp => (Value.ref.inj hp) ▸ (show 14 + i < 30 from by omega)) ?_
  refine v_lenO (by omega) (hG.1 i hi).2.2.2.2 dJ8_length_4 ?_
  refine v_aload_n dJ8_length_5 rfl rfl ?_
  refine v_callVO (by omega) (hG.1 i hi).2.1 mtJ8_coder q1018 q1019 q1020 dJ8_length_6 (c_J8_coder hG hi) (by decide) ?_
  refine v_ishr dJ8_length_9 ?_
  refine v_reti dJ8_length_10 rfl (Pu_i ?_)
  have := (st_ok9 i hi).1
  rw [show (0 : Int32) &&& 31 = nI 0 from rfl, pk_shrN (by omega) _ 0 (by decide), Nat.pow_zero, Nat.div_one]

theorem c_J7_checkIndexN {G : Gv} {h : AH} {k n : Nat} (hk : k < n) (hn : n < 2 ^ 31) : Ctr G 1 yJ7_checkIndex cJ7_checkIndex 3 (some .int) [.int (nI k), .int (nI n), .null] h 0 0 (Pu h (.int (nI k))) := by
  refine ctr_of (own := RJ7) (nm := "checkIndex") (by decide) (Nat.le_of_ble_eq_true rfl) ?_
  refine v_iload_n dJ7_checkIndex_0 rfl rfl ?_
  refine v_if_lt (tgt := 9) dJ7_checkIndex_1 (by decide) (fun b1 => ?_) (fun b1 => ?_)
  · skip
    exact absurd b1 (nI_pos (by omega))
  · skip
    refine v_iload_n dJ7_checkIndex_4 rfl rfl ?_
    refine v_iload_n dJ7_checkIndex_5 rfl rfl ?_
    refine v_icmp_lt (tgt := 16) dJ7_checkIndex_6 (by decide) (fun b6 => ?_) (fun b6 => ?_)
    · skip
      refine v_iload_n dJ7_checkIndex_16 rfl rfl ?_
      exact v_reti dJ7_checkIndex_17 rfl (Pu_i rfl)
    · skip
      exact absurd ((nI_ltI (by omega) hn).mpr hk) b6

theorem c_J7_checkIndexR {G : Gv} {h : AH} {k n : Nat} (hk : k < n) (hn : n < 2 ^ 31) : Ctr G 1 yJ7_checkIndex cJ7_checkIndex 3 (some .int) [.int (nI k), .int (nI n), .ref 28] h 0 0 (Pu h (.int (nI k))) := by
  refine ctr_of (own := RJ7) (nm := "checkIndex") (by decide) (Nat.le_of_ble_eq_true rfl) ?_
  refine v_iload_n dJ7_checkIndex_0 rfl rfl ?_
  refine v_if_lt (tgt := 9) dJ7_checkIndex_1 (by decide) (fun b1 => ?_) (fun b1 => ?_)
  · skip
    exact absurd b1 (nI_pos (by omega))
  · skip
    refine v_iload_n dJ7_checkIndex_4 rfl rfl ?_
    refine v_iload_n dJ7_checkIndex_5 rfl rfl ?_
    refine v_icmp_lt (tgt := 16) dJ7_checkIndex_6 (by decide) (fun b6 => ?_) (fun b6 => ?_)
    · skip
      refine v_iload_n dJ7_checkIndex_16 rfl rfl ?_
      exact v_reti dJ7_checkIndex_17 rfl (Pu_i rfl)
    · skip
      exact absurd ((nI_ltI (by omega) hn).mpr hk) b6

theorem c_J8_checkIndex {G : Gv} {h : AH} (hG : gs_ok G) {k n : Nat} (hk : k < n) (hn : n < 2 ^ 31) : Ctr G 2 yJ8_checkIndex cJ8_checkIndex 2 none [.int (nI k), .int (nI n)] h 0 0 (fun q h1 => q = none ∧ h1 = h) := by
  refine ctr_of (own := RJ8) (nm := "checkIndex") (by decide) (Nat.le_of_ble_eq_true rfl) ?_
  refine v_iload_n dJ8_checkIndex_0 rfl rfl ?_
  refine v_iload_n dJ8_checkIndex_1 rfl rfl ?_
  rcases hG.2.2 with hz | hz
  · refine v_gets (v := .null) hz q1038 dJ8_checkIndex_2 (fun p hp => by cases hp) ?_
    refine v_pS mtJ7_checkIndex q1040 q614 dJ8_checkIndex_5 (c_J7_checkIndexN hk hn) (by decide) ?_
    refine v_pop dJ8_checkIndex_8 rfl ?_
    exact v_retv dJ8_checkIndex_9 trivial ⟨rfl, rfl⟩
  · refine v_gets (v := .ref 28) hz q1038 dJ8_checkIndex_2 (fun p hp => by cases hp; decide) ?_
    refine v_pS mtJ7_checkIndex q1040 q614 dJ8_checkIndex_5 (c_J7_checkIndexR hk hn) (by decide) ?_
    refine v_pop dJ8_checkIndex_8 rfl ?_
    exact v_retv dJ8_checkIndex_9 trivial ⟨rfl, rfl⟩

theorem c_J9_charAt {G : Gv} {h : AH} (hG : gs_ok G) {i : Nat} (hi : i < 13) {k : Nat} (hk : k < (st_b i).length) : Ctr G 3 yJ9_charAt cJ9_charAt 2 (some .char) [.ref (14 + i), .int (nI k)] h 0 0 (Pu h (.int (nI ((st_b i).getD k 0)))) := by
  refine ctr_of (own := RJ9) (nm := "charAt") (by decide) (Nat.le_of_ble_eq_true rfl) ?_
  obtain ⟨hs1, hs2⟩ := st_ok9 i hi
  refine v_iload_n dJ9_charAt_0 rfl rfl ?_
  refine v_aload_n dJ9_charAt_1 rfl rfl ?_
  refine v_lenO (by omega) (hG.1 i hi).2.2.2.2 dJ9_charAt_2 ?_
  refine v_zS mtJ8_checkIndex q1035 q1036 dJ9_charAt_3 (c_J8_checkIndex hG hk (by omega)) (by decide) (fun r3 h3 q3 z3 => ?_)
  obtain ⟨rfl, rfl⟩ := q3
  refine v_aload_n dJ9_charAt_6 rfl rfl ?_
  refine v_iload_n dJ9_charAt_7 rfl rfl ?_
  refine v_baldO (by omega) (hG.1 i hi).2.2.2.2 rfl hk (by omega) rfl dJ9_charAt_8 ?_
  refine v_sipush (v := 255) dJ9_charAt_9 (by decide) ?_
  refine v_iand dJ9_charAt_12 ?_
  refine v_i2c dJ9_charAt_13 ?_
  rw [(st_c (hs2 k hk)).1]
  exact v_reti dJ9_charAt_14 (st_c (hs2 k hk)).2 (Pu_i rfl)

theorem c_J8_charAt {G : Gv} {h : AH} (hG : gs_ok G) {i : Nat} (hi : i < 13) {k : Nat} (hk : k < (st_b i).length) : Ctr G 4 yJ8_charAt cJ8_charAt 2 (some .char) [.ref (1 + i), .int (nI k)] h 0 0 (Pu h (.int (nI ((st_b i).getD k 0)))) := by
  refine ctr_of (own := RJ8) (nm := "charAt") (by decide) (Nat.le_of_ble_eq_true rfl) ?_
  obtain ⟨hs1, hs2⟩ := st_ok9 i hi
  refine v_aload_n dJ8_charAt_0 rfl rfl ?_
  refine v_callVO (by omega) (hG.1 i hi).2.1 mtJ8_isLatin1 q1028 q1029 q1030 dJ8_charAt_1 (c_J8_isLatin1 hG hi) (by decide) ?_
  refine v_if_eq (tgt := 16) dJ8_charAt_4 (by decide) (fun b4 => ?_) (fun b4 => ?_)
  · skip
    exact absurd b4 (by decide)
  · skip
    refine v_aload_n dJ8_charAt_7 rfl rfl ?_
    refine v_getOF (v := .ref (14 + i)) (by omega) (hG.1 i hi).2.2.1 q2277 dJ8_charAt_8 (fun p hp => (Value.ref.inj hp) ▸ (show 14 + i < 30 from by omega)) ?_
    refine v_iload_n dJ8_charAt_11 rfl rfl ?_
    refine v_pS mtJ9_charAt q1032 q1033 dJ8_charAt_12 (c_J9_charAt hG hi hk) (by decide) ?_
    exact v_reti dJ8_charAt_15 (st_c (hs2 k hk)).2 (Pu_i rfl)

