/-! ABSTRACT HEAPS: places are numbers; a place's kind (class number, 0; or 100 + array kind, length); its ints, longs, references. Places below 30 are outside (the script, Strings). -/
set_option maxRecDepth 100000
abbrev AH : Type := Nat × (Nat → Nat × Nat) × (Nat → Nat → Int32) × (Nat → Nat → Int64) × (Nat → Nat → Option Nat)
def hp_n (h : AH) : Nat := h.1
def hp_K (h : AH) : Nat → Nat × Nat := h.2.1
def hp_I (h : AH) : Nat → Nat → Int32 := h.2.2.1
def hp_L (h : AH) : Nat → Nat → Int64 := h.2.2.2.1
def hp_R (h : AH) : Nat → Nat → Option Nat := h.2.2.2.2
def up_2 {α : Type} (f : Nat → Nat → α) (p k : Nat) (v : α) : Nat → Nat → α := fun q j => if q = p ∧ j = k then v else f q j
def up_I (h : AH) (p k : Nat) (v : Int32) : AH := (h.1, h.2.1, up_2 h.2.2.1 p k v, h.2.2.2.1, h.2.2.2.2)
def up_L (h : AH) (p k : Nat) (v : Int64) : AH := (h.1, h.2.1, h.2.2.1, up_2 h.2.2.2.1 p k v, h.2.2.2.2)
def up_R (h : AH) (p k : Nat) (v : Option Nat) : AH := (h.1, h.2.1, h.2.2.1, h.2.2.2.1, up_2 h.2.2.2.2 p k v)
/-- a whole array's ints, references -/
def up_IA (h : AH) (p : Nat) (f : Nat → Int32) : AH := (h.1, h.2.1, (fun q j => if q = p then f j else h.2.2.1 q j), h.2.2.2.1, h.2.2.2.2)
def up_RA (h : AH) (p : Nat) (f : Nat → Option Nat) : AH := (h.1, h.2.1, h.2.2.1, h.2.2.2.1, (fun q j => if q = p then f j else h.2.2.2.2 q j))
/-- a new cell, all zero -/
def hp_new (h : AH) (t : Nat × Nat) : AH := (h.1 + 1, (fun p => if p = h.1 then t else h.2.1 p), (fun p k => if p = h.1 then 0 else h.2.2.1 p k), (fun p k => if p = h.1 then 0 else h.2.2.2.1 p k), (fun p k => if p = h.1 then none else h.2.2.2.2 p k))
theorem hp_K_I (h : AH) (p k : Nat) (v : Int32) : hp_K (up_I h p k v) = hp_K h := rfl
theorem hp_R_I (h : AH) (p k : Nat) (v : Int32) : hp_R (up_I h p k v) = hp_R h := rfl
theorem hp_L_I (h : AH) (p k : Nat) (v : Int32) : hp_L (up_I h p k v) = hp_L h := rfl
theorem hp_n_I (h : AH) (p k : Nat) (v : Int32) : hp_n (up_I h p k v) = hp_n h := rfl
theorem hp_K_L (h : AH) (p k : Nat) (v : Int64) : hp_K (up_L h p k v) = hp_K h := rfl
theorem hp_R_L (h : AH) (p k : Nat) (v : Int64) : hp_R (up_L h p k v) = hp_R h := rfl
theorem hp_I_L (h : AH) (p k : Nat) (v : Int64) : hp_I (up_L h p k v) = hp_I h := rfl
theorem hp_n_L (h : AH) (p k : Nat) (v : Int64) : hp_n (up_L h p k v) = hp_n h := rfl
theorem hp_K_R (h : AH) (p k : Nat) (v : Option Nat) : hp_K (up_R h p k v) = hp_K h := rfl
theorem hp_I_R (h : AH) (p k : Nat) (v : Option Nat) : hp_I (up_R h p k v) = hp_I h := rfl
theorem hp_L_R (h : AH) (p k : Nat) (v : Option Nat) : hp_L (up_R h p k v) = hp_L h := rfl
theorem hp_n_R (h : AH) (p k : Nat) (v : Option Nat) : hp_n (up_R h p k v) = hp_n h := rfl
theorem hp_I_I (h : AH) (p k : Nat) (v : Int32) (q j : Nat) : hp_I (up_I h p k v) q j = if q = p ∧ j = k then v else hp_I h q j := rfl
theorem hp_L_L (h : AH) (p k : Nat) (v : Int64) (q j : Nat) : hp_L (up_L h p k v) q j = if q = p ∧ j = k then v else hp_L h q j := rfl
theorem hp_R_R (h : AH) (p k : Nat) (v : Option Nat) (q j : Nat) : hp_R (up_R h p k v) q j = if q = p ∧ j = k then v else hp_R h q j := rfl
def TXe_ : u_T := fun _ => ("RapTable$Away", "", "I", false)
/-- the classes by their numbers (9, 18, 21: abstract, never made: RapTable's row stands there) -/
abbrev clA : List vw_C := [(RX4, TX4, 62), (RX0, TX0, 20), (RX1, TX1, 10), (RX2, TX2, 10), (RX3, TX3, 13), (RX5, TX5, 4), (RX6, TX6, 5), (RX7, TX7, 11), (RX8, TX8, 3), (RX0, TX0, 20), (RX10, TX10, 1), (RX11, TX11, 1), (RX12, TX12, 1), (RX13, TX13, 1), (RX14, TX14, 1), (RX15, TXe_, 0), (RX16, TX16, 2), (RX17, TX17, 2), (RX0, TX0, 20), (RX19, TX19, 8), (RX20, TX20, 7), (RX0, TX0, 20), (RX22, TX22, 6), (RX23, TX23, 6), (RX24, TX24, 7), (RJ2, TJ2, 3)]
def cl_T (c : Nat) : u_T := (clA.getD c (RX0, TX0, 20)).2.1
def cl_N (c : Nat) : Nat := (clA.getD c (RX0, TX0, 20)).2.2
def ar_ty : List FieldType := [.int, .boolean, .byte, .long, .array .int, .array (.array .boolean), .array .boolean, .object "java/lang/Object", .object "RapTable$Sitting"]
def ty_A (tc : Nat → ClassId) : List (ClassId × FieldType) := [(tc 0, .int), (tc 1, .boolean), (tc 2, .byte), (tc 3, .long), (tc 4, .array .int), (tc 5, .array (.array .boolean)), (tc 6, .array .boolean), (tc 7, .object "java/lang/Object"), (tc 8, .object "RapTable$Sitting")]
/-- a field's kind by its descriptor: 0 int, 1 long, 2 reference -/
def fc_d (d : String) : Nat := if d = "J" then 1 else if d = "I" then 0 else if d = "Z" then 0 else if d = "B" then 0 else 2
def ob_v (ad : Nat → Nat) (h : AH) (p : Nat) (T : u_T) (k : Nat) : Value := if fc_d (T k).2.2.1 = 0 then .int (hp_I h p k) else if fc_d (T k).2.2.1 = 1 then .long (hp_L h p k) else va_rf ((hp_R h p k).map ad)
def ar_c (ad : Nat → Nat) (h : AH) (p t n : Nat) : vp_A := if t ≤ 2 then (n, .inl (hp_I h p)) else if t = 3 then (n, .inr (.inl (hp_L h p))) else (n, .inr (.inr (.inr (.inr (fun i => (hp_R h p i).map ad)))))
def ce_ (ad : Nat → Nat) (tc : Nat → ClassId) (h : AH) (p : Nat) : Nat × va_E := (ad p, if (hp_K h p).1 < 100 then .inr ((hp_K h p).1, (List.range (cl_N (hp_K h p).1)).map (ob_v ad h p (cl_T (hp_K h p).1))) else .inl (tc ((hp_K h p).1 - 100), ar_c ad h p ((hp_K h p).1 - 100) (hp_K h p).2))
def wd_ (ad : Nat → Nat) (tc : Nat → ClassId) (h : AH) : va_W := (List.range (hp_n h - 30)).map (fun i => ce_ ad tc h (i + 30))
theorem wd_at {ad : Nat → Nat} {tc : Nat → ClassId} {h : AH} {p : Nat} (h1 : 30 ≤ p) (h2 : p < hp_n h) : (wd_ ad tc h)[p - 30]? = some (ce_ ad tc h p) := by
  unfold wd_
  rw [List.getElem?_map, List.getElem?_range (by omega)]
  show some (ce_ ad tc h (p - 30 + 30)) = _
  rw [show p - 30 + 30 = p by omega]
/-- two heaps the same at a place -/
def sm_ (h h' : AH) (p : Nat) : Prop := hp_K h' p = hp_K h p ∧ (∀ k, hp_I h' p k = hp_I h p k) ∧ (∀ k, hp_L h' p k = hp_L h p k) ∧ (∀ k, hp_R h' p k = hp_R h p k)
theorem ce_sm {ad ad' : Nat → Nat} {tc : Nat → ClassId} {h h' : AH} {p : Nat} (hs : sm_ h h' p) (ha : ad' p = ad p) (hr : ∀ k, (hp_R h p k).map ad' = (hp_R h p k).map ad) : ce_ ad' tc h' p = ce_ ad tc h p := by
  obtain ⟨e1, e2, e3, e4⟩ := hs
  have f2 : hp_I h' p = hp_I h p := funext e2
  have f3 : hp_L h' p = hp_L h p := funext e3
  have f4 : hp_R h' p = hp_R h p := funext e4
  have fo : ∀ T : u_T, ob_v ad' h' p T = ob_v ad h p T := fun T => funext fun k => by
    unfold ob_v
    rw [f2, f3, f4, hr k]
  have fa : ∀ t n : Nat, ar_c ad' h' p t n = ar_c ad h p t n := fun t n => by
    unfold ar_c
    rw [f2, f3, f4]
    have : (fun i => (hp_R h p i).map ad') = (fun i => (hp_R h p i).map ad) := funext hr
    rw [this]
  unfold ce_
  rw [ha, e1]
  simp only [fo, fa]
theorem wd_set {ad : Nat → Nat} {tc : Nat → ClassId} {h h' : AH} {p : Nat} {x : Nat × va_E} (hn : hp_n h' = hp_n h) (h1 : 30 ≤ p) (ho : ∀ q, q ≠ p → sm_ h h' q) (hx : x = ce_ ad tc h' p) : (wd_ ad tc h).set (p - 30) x = wd_ ad tc h' := by
  subst hx
  refine List.ext_getElem? fun i => ?_
  unfold wd_
  rw [hn]
  by_cases hi : i < hp_n h - 30
  · by_cases e : i = p - 30
    · subst e
      rw [List.getElem?_set_self (by simpa using hi), List.getElem?_map, List.getElem?_range hi]
      show some (ce_ ad tc h' p) = some (ce_ ad tc h' (p - 30 + 30))
      rw [show p - 30 + 30 = p by omega]
    · rw [List.getElem?_set_ne (Ne.symm e), List.getElem?_map, List.getElem?_map, List.getElem?_range hi]
      show some (ce_ ad tc h (i + 30)) = some (ce_ ad tc h' (i + 30))
      rw [ce_sm (ho _ (by omega)) rfl (fun _ => rfl)]
  · rw [List.getElem?_eq_none (by simp; omega), List.getElem?_eq_none (by simp; omega)]
theorem wd_new {ad : Nat → Nat} {tc : Nat → ClassId} {h : AH} {t : Nat × Nat} {a : Nat} {ad' : Nat → Nat} (h20 : 30 ≤ hp_n h) (hin : ∀ q k y, q < hp_n h → hp_R h q k = some y → y < hp_n h) (ha : ad' = fun q => if q = hp_n h then a else ad q) : wd_ ad tc h ++ [ce_ ad' tc (hp_new h t) (hp_n h)] = wd_ ad' tc (hp_new h t) := by
  refine List.ext_getElem? fun i => ?_
  have hz : hp_n (hp_new h t) = hp_n h + 1 := rfl
  have hl : (wd_ ad tc h).length = hp_n h - 30 := by simp [wd_]
  by_cases hi : i < hp_n h - 30
  · rw [List.getElem?_append_left (by rw [hl]; exact hi)]
    unfold wd_
    rw [hz, List.getElem?_map, List.getElem?_map, List.getElem?_range hi, List.getElem?_range (by omega)]
    show some (ce_ ad tc h (i + 30)) = some (ce_ ad' tc (hp_new h t) (i + 30))
    have hne : i + 30 ≠ hp_n h := by omega
    have hne' : ¬ i + 30 = h.1 := hne
    refine congrArg some (ce_sm ⟨?_, fun k => ?_, fun k => ?_, fun k => ?_⟩ ?_ fun k => ?_).symm
    · show (if i + 30 = h.1 then _ else _) = _
      rw [if_neg hne']; rfl
    · show (if i + 30 = h.1 then _ else _) = _
      rw [if_neg hne']; rfl
    · show (if i + 30 = h.1 then _ else _) = _
      rw [if_neg hne']; rfl
    · show (if i + 30 = h.1 then _ else _) = _
      rw [if_neg hne']; rfl
    · rw [ha]; show (if i + 30 = hp_n h then _ else _) = _; rw [if_neg hne]
    · cases hy : hp_R h (i + 30) k with
      | none => rfl
      | some y =>
        have := hin _ _ _ (by omega) hy
        show some (ad' y) = some (ad y)
        rw [ha]
        show some (if y = hp_n h then _ else _) = _
        rw [if_neg (by omega)]
  · by_cases e : i = hp_n h - 30
    · subst e
      rw [List.getElem?_append_right (by rw [hl]; exact Nat.le_refl _), hl, Nat.sub_self]
      unfold wd_
      rw [hz, List.getElem?_map, List.getElem?_range (by omega)]
      show some _ = some (ce_ ad' tc (hp_new h t) (hp_n h - 30 + 30))
      rw [show hp_n h - 30 + 30 = hp_n h by omega]
    · rw [List.getElem?_eq_none (by simp [wd_]; omega), List.getElem?_eq_none (by simp [wd_, hz]; omega)]
/-! THE WORLD -/
/-- launch, classes, array classes, the law's start, the outside places -/
abbrev Gv : Type := Launch × va_G × (Nat → ClassId) × State × (Nat → Nat)
def gv_l (G : Gv) : Launch := G.1
def gv_D (G : Gv) : va_G := G.2.1
def gv_t (G : Gv) : Nat → ClassId := G.2.2.1
def gv_s (G : Gv) : State := G.2.2.2.1
def gv_x (G : Gv) : Nat → Nat := G.2.2.2.2
def gv_A (G : Gv) : Nat → Prop := fun q => (gv_s G).heap.size ≤ q
/-- the tables' words that don't ride in the lists -/
def nw_g (w : Cond) : Bool := match w with
  | .fieldLinkNest _ _ _ _ _ _ => true
  | .methodLinkNest _ _ _ _ => true
  | .castable _ _ => true
  | .declares _ => true
  | _ => false
def nw_all : List Cond := lw_tbl.filter nw_g
theorem nw_warm {s U : State} (hW : s.WarmedH U.vm) {w : Cond} (hg : nw_g w = true) (h : va_Nw w s) : va_Nw w U := by
  cases w <;> first | (exfalso; cases hg; done) | exact h.warmF hW | exact h.warmM hW | exact h.warmC hW | exact h.warmD hW | exact va_Nw.warmF hW h | exact va_Nw.warmM hW h | exact va_Nw.warmC hW h | exact va_Nw.warmD hW h
theorem nw_same {u U : State} (e : u.vm = U.vm) {w : Cond} (hg : nw_g w = true) (h : va_Nw w u) : va_Nw w U := by
  cases w <;> first | (exfalso; cases hg; done) | exact va_Nw.same rfl e h
def ao_A : List String := ["java/lang/Object", "RapTable$Sitting"]
/-- what the tables say at a state -/
def ev_ok (G : Gv) (U : State) : Prop := va_K (gv_D G) clA (ty_A (gv_t G)) U ∧ (∀ w ∈ nw_all, va_Nw w U) ∧ (gv_s G).WarmedH U.vm ∧ ∀ C ∈ ao_A, va_AO C U
theorem ev_warm {G : Gv} {s U : State} (hW : s.WarmedH U.vm) (h : ev_ok G s) : ev_ok G U := ⟨va_K.moved hW.alike h.1, fun w hw => nw_warm hW (List.mem_filter.mp hw).2 (h.2.1 w hw), State.WarmedH.trans h.2.2.1 hW, fun C hC => va_AO.moved hW.alike (h.2.2.2 C hC)⟩
theorem ev_same {G : Gv} {s U : State} (e : s.vm = U.vm) (h : ev_ok G s) : ev_ok G U := by
  refine ⟨va_K.moved (by rw [e]; exact Vm.Alike.refl U.vm) h.1, fun w hw => nw_same e (List.mem_filter.mp hw).2 (h.2.1 w hw), by rw [← e]; exact h.2.2.1, fun C hC => va_AO.moved (by rw [e]; exact Vm.Alike.refl U.vm) (h.2.2.2 C hC)⟩
/-- kinds: nothing stands outside the heap's own places; references stay inside -/
def kd_ok (h : AH) : Prop := 30 ≤ hp_n h ∧ (∀ p, (p < 30 ∨ hp_n h ≤ p) → (hp_K h p).1 = 999) ∧ ∀ p k y, p < hp_n h → hp_R h p k = some y → y < hp_n h
theorem kd_in {h : AH} (hk : kd_ok h) {p : Nat} {t : Nat × Nat} (e : hp_K h p = t) (ht : t.1 ≠ 999) : 30 ≤ p ∧ p < hp_n h := by
  refine ⟨?_, ?_⟩
  · rcases Nat.lt_or_ge p 30 with q | q
    · exact absurd (by rw [← e]; exact hk.2.1 p (Or.inl q)) ht
    · exact q
  · rcases Nat.lt_or_ge p (hp_n h) with q | q
    · exact q
    · exact absurd (by rw [← e]; exact hk.2.1 p (Or.inr q)) ht
def hp_ok (G : Gv) (ad : Nat → Nat) (h : AH) (H : Heap) : Prop := va_P (gv_D G) clA (wd_ ad (gv_t G) h) H ∧ va_D (gv_A G) (wd_ ad (gv_t G) h) ∧ (∀ q, q < (gv_s G).heap.size → H[q]? = (gv_s G).heap[q]?) ∧ (gv_s G).heap.size ≤ H.size ∧ kd_ok h ∧ ∀ q, q < 30 → ad q = gv_x G q
def cv_ (ad : Nat → Nat) (v : Value) : Value := match v with
  | .ref p => .ref (ad p)
  | .int x => .int x
  | .long x => .long x
  | .float x => .float x
  | .double x => .double x
  | .null => .null
  | .retAddr x => .retAddr x
def cp_ (ad : Nat → Nat) (q : Nat × Value) : Nat × Value := (q.1, cv_ ad q.2)
theorem cv_cat (ad : Nat → Nat) (v : Value) : (cv_ ad v).category = v.category := by cases v <;> rfl
/-- references in a value stay inside -/
def vi_ (n : Nat) (v : Value) : Prop := match v with
  | .ref p => p < n
  | _ => True
/-- an answer fits its type -/
def rt_ok (ret : Option FieldType) (r : Option Value) : Prop := match ret, r with
  | none, none => True
  | some ty, some (.int v) => narrow ty (.int v) = .int v
  | some ty, some (.long _) => ty = .long
  | some ty, some (.ref _) => (∃ n, ty = .object n) ∨ ∃ t, ty = .array t
  | some ty, some .null => (∃ n, ty = .object n) ∨ ∃ t, ty = .array t
  | _, _ => False
def rt_i (r : Option Value) : Instr := match r with
  | none => .return_
  | some (.int _) => .ireturn
  | some (.long _) => .lreturn
  | _ => .areturn
/-- what holds of a frame that runs -/
def cx_ok (G : Gv) (d : Nat) (own nm : String) (cc : ByteArray) (nL : Nat) (p : Program) (R : Room) (s : State) (m : MethodId) (args : Array Value) (meth : Method) (c : Code) : Prop :=
  p.tables.exec = Jvm.exec ∧ c.code = cc ∧ c.maxLocals = nL ∧ s.vm.findClass own = some m.cls ∧ (∀ w ∈ lw_all, w.before args s = true) ∧ ev_ok G s ∧ meth.name = nm ∧ d ≤ R.frames ∧ 60 * d ≤ R.locals ∧ (gv_s G).heap.size ≤ s.heap.size ∧ ∀ q, q < (gv_s G).heap.size → s.heap[q]? = (gv_s G).heap[q]?
/-- how it may end -/
def ex_ok (G : Gv) (cc : ByteArray) (ret : Option FieldType) (Q : Option Value → AH → Prop) (p : Program) (e : Env) (R : Room) (s : State) (m : MethodId) (args : Array Value) (below : List Frame) (meth : Method) (c : Code) (Z : State → Prop) (ad0 : Nat → Nat) (n0 : Nat) : Prop :=
  ∀ (ad : Nat → Nat) (h : AH) (r : Option Value) (H : Heap) (locs : List Loc) (cells slots pc : Nat) (ls : Array Slot), Q r h → rt_ok ret r → hp_ok G ad h H → n0 ≤ hp_n h → (∀ q, q < n0 → ad q = ad0 q) → (∀ v, r = some v → vi_ (hp_n h) v) → va_S (gv_A G) s.heap H locs → cells ≤ R.cells → slots ≤ R.slots → decode cc pc = .ok (rt_i r, 1) →
    W p (gv_l G) e R s m args below meth c H locs cells slots Z (F0 m pc ls (r.map (cv_ ad)).toList)
/-- the frame's state against the abstract one -/
def st_ok (G : Gv) (nL mc ms : Nat) (R : Room) (s : State) (ad0 : Nat → Nat) (n0 : Nat) (ad : Nat → Nat) (H : Heap) (locs : List Loc) (cells slots : Nat) (ls : Array Slot) (l : List (Nat × Value)) (h : AH) : Prop :=
  hp_ok G ad h H ∧ n0 ≤ hp_n h ∧ (∀ q, q < n0 → ad q = ad0 q) ∧ va_S (gv_A G) s.heap H locs ∧ cells + mc ≤ R.cells ∧ slots + ms ≤ R.slots ∧ lv_has ls nL (l.map (cp_ ad)) ∧ ∀ q ∈ l, vi_ (hp_n h) q.2
/-- THE JUDGEMENT: from here the frame comes to an end with Q -/
def Vv (G : Gv) (d : Nat) (own nm : String) (cc : ByteArray) (nL : Nat) (ret : Option FieldType) (mc ms : Nat) (Q : Option Value → AH → Prop) (pc : Nat) (l : List (Nat × Value)) (st : List Value) (h : AH) : Prop :=
  ∀ (p : Program) (e : Env) (R : Room) (s : State) (m : MethodId) (args : Array Value) (below : List Frame) (meth : Method) (c : Code) (Z : State → Prop) (ad0 : Nat → Nat) (n0 : Nat), cx_ok G d own nm cc nL p R s m args meth c → ex_ok G cc ret Q p e R s m args below meth c Z ad0 n0 →
  ∀ (ad : Nat → Nat) (H : Heap) (locs : List Loc) (cells slots : Nat) (ls : Array Slot), st_ok G nL mc ms R s ad0 n0 ad H locs cells slots ls l h → (∀ v ∈ st, vi_ (hp_n h) v) → W p (gv_l G) e R s m args below meth c H locs cells slots Z (F0 m pc ls (st.map (cv_ ad)))
