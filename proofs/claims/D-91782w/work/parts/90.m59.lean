set_option maxRecDepth 100000
def outer3 (c : ClassId) (N M h0 : Nat) : Nat → Cell
  | 0 => { cls := c, slots := Array.replicate N .null, vm := .none }
  | i + 1 => (outer3 c N M h0 i).setSlot i (.ref (h0 + 1 + i * (M + 1)))
def fill3 (s : State) (c comp comp2 : ClassId) (N M K : Nat) (dv : Value) : Nat → State
  | 0 => s.pushCell (outer3 c N M s.heap.size 0)
  | i + 1 => (Jvm.Free.Multi.fill (fill3 s c comp comp2 N M K dv i) comp comp2 M K dv M).setCell s.heap.size (outer3 c N M s.heap.size (i + 1))
theorem outer3_facts (c : ClassId) (N M h0 : Nat) : ∀ i, (outer3 c N M h0 i).cls = c ∧ (outer3 c N M h0 i).vm = .none ∧ (outer3 c N M h0 i).slots.size = N
  | 0 => ⟨rfl, rfl, by simp [outer3]⟩
  | i + 1 => by
    obtain ⟨a, b, d⟩ := outer3_facts c N M h0 i
    exact ⟨by simp [outer3, Cell.setSlot, a], by simp [outer3, Cell.setSlot, b], by simp [outer3, Cell.setSlot, d]⟩
theorem outer3_slot (c : ClassId) (N M h0 : Nat) : ∀ i j, j < N → (outer3 c N M h0 i).slots[j]? = some (if j < i then .ref (h0 + 1 + j * (M + 1)) else .null)
  | 0, j, h => by simp [outer3, h]
  | i + 1, j, h => by
    have ih := outer3_slot c N M h0 i j h
    have hs := (outer3_facts c N M h0 i).2.2
    show ((outer3 c N M h0 i).setSlot i (.ref (h0 + 1 + i * (M + 1)))).slots[j]? = _
    simp only [Cell.setSlot, Array.getElem?_setIfInBounds]
    by_cases e : i = j
    · subst e; simp [hs, h]
    · rw [if_neg e, ih]
      by_cases hj : j < i
      · rw [if_pos hj, if_pos (by omega)]
      · rw [if_neg hj, if_neg (by omega)]
theorem fill3_facts (s : State) (c comp comp2 : ClassId) (N M K : Nat) (dv : Value) : ∀ i, (fill3 s c comp comp2 N M K dv i).heap.size = s.heap.size + 1 + i * (M + 1) ∧ (fill3 s c comp comp2 N M K dv i).heap[s.heap.size]? = some (outer3 c N M s.heap.size i) ∧
    (fill3 s c comp comp2 N M K dv i).vm = s.vm ∧ (fill3 s c comp comp2 N M K dv i).slotsUsed = s.slotsUsed + N + i * (M + M * K)
  | 0 => ⟨by simp [fill3], by simp [fill3], rfl, by simp [fill3, outer3]⟩
  | i + 1 => by
    obtain ⟨a, b, d, u⟩ := fill3_facts s c comp comp2 N M K dv i
    obtain ⟨f1, f2, f3, f4⟩ := Jvm.Free.Multi.fill_facts (fill3 s c comp comp2 N M K dv i) comp comp2 M K dv M
    have hb' : (Jvm.Free.Multi.fill (fill3 s c comp comp2 N M K dv i) comp comp2 M K dv M).heap[s.heap.size]? = some (outer3 c N M s.heap.size i) := by
      have ho := Jvm.Free.Multi.fill_old (fill3 s c comp comp2 N M K dv i) comp comp2 M K dv (a := s.heap.size) (Nat.lt_of_lt_of_le (m := s.heap.size + 1 + i * (M + 1)) (by omega) (Nat.le_of_eq a.symm)) M
      rw [ho]; exact b
    refine ⟨?_, State.heap_setCell_self hb', ?_, ?_⟩
    · show (State.setCell _ _ _).heap.size = _
      simp [State.setCell, f1, a, Nat.succ_mul]; omega
    · show (State.setCell _ _ _).vm = _
      simp [f3, d]
    · show (State.setCell _ _ _).slotsUsed = _
      simp [f4, u, Nat.succ_mul]; omega
theorem fill3_old (s : State) (c comp comp2 : ClassId) (N M K : Nat) (dv : Value) {a : Addr} (ha : a < s.heap.size) : ∀ i, (fill3 s c comp comp2 N M K dv i).heap[a]? = s.heap[a]?
  | 0 => State.heap_pushCell_of_lt _ _ ha
  | i + 1 => by
    have f1 := (fill3_facts s c comp comp2 N M K dv i).1
    show (State.setCell _ s.heap.size _).heap[a]? = _
    have ho := Jvm.Free.Multi.fill_old (fill3 s c comp comp2 N M K dv i) comp comp2 M K dv (a := a) (Nat.lt_of_lt_of_le ha (Nat.le_trans (m := s.heap.size + 1 + i * (M + 1)) (by omega) (Nat.le_of_eq f1.symm))) M
    rw [State.heap_setCell_other (Nat.ne_of_gt ha), ho]
    exact fill3_old s c comp comp2 N M K dv ha i
theorem fill3_mid (s : State) (c comp comp2 : ClassId) (N M K : Nat) (dv : Value) : ∀ i j, j < i → (fill3 s c comp comp2 N M K dv i).heap[s.heap.size + 1 + j * (M + 1)]? = some (Jvm.Free.Multi.outerC comp M (s.heap.size + 1 + j * (M + 1)) M) ∧ ∀ q, q < M → (fill3 s c comp comp2 N M K dv i).heap[s.heap.size + 1 + j * (M + 1) + 1 + q]? = some (Jvm.Free.Multi.innerC comp2 K dv)
  | 0, _, h => absurd h (Nat.not_lt_zero _)
  | i + 1, j, h => by
    have f1 := (fill3_facts s c comp comp2 N M K dv i).1
    have g := Jvm.Free.Multi.fill_facts (fill3 s c comp comp2 N M K dv i) comp comp2 M K dv M
    rcases Nat.lt_or_ge j i with hj | hj
    · have ih := fill3_mid s c comp comp2 N M K dv i j hj
      have hm : j * (M + 1) + (M + 1) ≤ i * (M + 1) := by rw [← Nat.succ_mul]; exact Nat.mul_le_mul_right _ hj
      constructor
      · show (State.setCell _ s.heap.size _).heap[_]? = _
        have ho := Jvm.Free.Multi.fill_old (fill3 s c comp comp2 N M K dv i) comp comp2 M K dv (a := s.heap.size + 1 + j * (M + 1)) (Nat.lt_of_lt_of_le (m := s.heap.size + 1 + i * (M + 1)) (by omega) (Nat.le_of_eq f1.symm)) M
        rw [State.heap_setCell_other (show s.heap.size ≠ s.heap.size + 1 + j * (M + 1) by omega), ho]
        exact ih.1
      · intro q hq
        show (State.setCell _ s.heap.size _).heap[_]? = _
        have ho := Jvm.Free.Multi.fill_old (fill3 s c comp comp2 N M K dv i) comp comp2 M K dv (a := s.heap.size + 1 + j * (M + 1) + 1 + q) (Nat.lt_of_lt_of_le (m := s.heap.size + 1 + i * (M + 1)) (by omega) (Nat.le_of_eq f1.symm)) M
        rw [State.heap_setCell_other (show s.heap.size ≠ s.heap.size + 1 + j * (M + 1) + 1 + q by omega), ho]
        exact ih.2 q hq
    · have e : j = i := by omega
      subst e
      constructor
      · show (State.setCell _ s.heap.size _).heap[_]? = _
        rw [State.heap_setCell_other (show s.heap.size ≠ s.heap.size + 1 + j * (M + 1) by omega), ← f1]
        exact g.2.1
      · intro q hq
        show (State.setCell _ s.heap.size _).heap[_]? = _
        rw [State.heap_setCell_other (show s.heap.size ≠ s.heap.size + 1 + j * (M + 1) + 1 + q by omega), ← f1]
        exact Jvm.Free.Multi.fill_inner _ _ _ _ _ _ M q hq
theorem fill3_setTop (s : State) (f : JFrame) (c comp comp2 : ClassId) (N M K : Nat) (dv : Value) : ∀ i, fill3 (s.setTop f) c comp comp2 N M K dv i = (fill3 s c comp comp2 N M K dv i).setTop f
  | 0 => rfl
  | i + 1 => by simp only [fill3, fill3_setTop s f c comp comp2 N M K dv i, Jvm.Free.Multi.fill_setTop, State.heap_setTop, State.setCell_setTop]
section M3
variable {E : CtlPost} {e : Env} {d : Bool} {acts : List Action} {s : State}
set_option maxHeartbeats 1000000 in
theorem wp_make3 {c comp comp2 cc : ClassId} {k kc kc2 : Class} {t0 t1 type : FieldType} {n m k3 : Int32} (hk : s.vm.classes[c]? = some k) (hkind : k.kind = .array comp t0) (href : t0.isReference = true)
    (hkc : s.vm.classes[comp]? = some kc) (hkindc : kc.kind = .array comp2 t1) (href1 : t1.isReference = true) (hkc2 : s.vm.classes[comp2]? = some kc2) (hkindc2 : kc2.kind = .array cc type) (hn : ¬ n < 0) (hm : ¬ m < 0) (hk3 : ¬ k3 < 0)
    (hl1 : ¬ n.toNatClampNeg > e.platform.arrayLengthLimit) (hh1 : ¬ n.toNatClampNeg * componentBytes t0 > e.platform.maxHeapBytes)
    (hl2 : ¬ m.toNatClampNeg > e.platform.arrayLengthLimit) (hh2 : ¬ m.toNatClampNeg * componentBytes t1 > e.platform.maxHeapBytes)
    (hl3 : ¬ k3.toNatClampNeg > e.platform.arrayLengthLimit) (hh3 : ¬ k3.toNatClampNeg * componentBytes type > e.platform.maxHeapBytes)
    (hdf : fits type (defaultValue type) = true) (hdd : (defaultValue type).isDefault = true)
    (hc : s.heap.size + 1 + n.toNatClampNeg * (m.toNatClampNeg + 1) ≤ e.platform.maxCells) (hs : s.slotsUsed + n.toNatClampNeg + n.toNatClampNeg * (m.toNatClampNeg + m.toNatClampNeg * k3.toNatClampNeg) ≤ e.platform.maxSlots)
    {Q : Addr → Jvm.Pre} (hq : ∀ d' acts', Q s.heap.size d' acts' (fill3 s c comp comp2 n.toNatClampNeg m.toNatClampNeg k3.toNatClampNeg (defaultValue type) n.toNatClampNeg)) :
    wp (Jvm.Op.multianewarray.make c [n, m, k3]) Q E e d acts s := by
  have hfind : ([m, k3].find? (· < 0)) = none := by simp [hm, hk3]
  rw [Jvm.Op.multianewarray.make]
  simp only [wp_bind', W.ite, hn, if_false, wp_pure', W.theClass, hk, hkind, Option.some.injEq, exists_eq_left']
  refine Jvm.Free.Multi.wp_newArray hk hkind hl1 hh1 (Jvm.Free.Multi.refFits href _ (Or.inl rfl)) rfl (by omega) (by have := Nat.zero_le (n.toNatClampNeg * (m.toNatClampNeg + m.toNatClampNeg * k3.toNatClampNeg)); omega) ?_
  simp only [hfind]
  rw [ite_self, wp_bind', Std.Legacy.Range.forIn_eq_forIn_range']
  have hsz : ([:n.toNatClampNeg] : Std.Legacy.Range).size = n.toNatClampNeg := by simp [Std.Legacy.Range.size]
  rw [hsz]
  show wp (forIn (List.range' 0 n.toNatClampNeg 1) PUnit.unit _) _ E e d acts _
  refine wp_forIn_inv (fun rest s' => ∃ i, i ≤ n.toNatClampNeg ∧ rest = List.range' i (n.toNatClampNeg - i) ∧ s' = fill3 s c comp comp2 n.toNatClampNeg m.toNatClampNeg k3.toNatClampNeg (defaultValue type) i) _ _ ⟨0, Nat.zero_le _, rfl, rfl⟩ ?_ ?_
  · rintro x rest s' d' acts' Q' ⟨i, hi, hl, rfl⟩ hnext
    have hlt : i < n.toNatClampNeg := by
      rcases Nat.lt_or_ge i n.toNatClampNeg with h | h
      · exact h
      · rw [show n.toNatClampNeg - i = 0 from by omega] at hl; simp at hl
    obtain ⟨rfl, hrest⟩ : x = i ∧ rest = List.range' (i + 1) (n.toNatClampNeg - (i + 1)) := by
      rw [show n.toNatClampNeg - i = (n.toNatClampNeg - (i + 1)) + 1 from by omega, List.range'_succ] at hl
      exact ⟨(List.cons.inj hl).1, (List.cons.inj hl).2⟩
    obtain ⟨f1, f2, f3, f4⟩ := fill3_facts s c comp comp2 n.toNatClampNeg m.toNatClampNeg k3.toNatClampNeg (defaultValue type) x
    obtain ⟨o1, o2, o3⟩ := outer3_facts c n.toNatClampNeg m.toNatClampNeg s.heap.size x
    have hmul : x * (m.toNatClampNeg + m.toNatClampNeg * k3.toNatClampNeg) + (m.toNatClampNeg + m.toNatClampNeg * k3.toNatClampNeg) ≤ n.toNatClampNeg * (m.toNatClampNeg + m.toNatClampNeg * k3.toNatClampNeg) := by
      have := Nat.mul_le_mul_right (m.toNatClampNeg + m.toNatClampNeg * k3.toNatClampNeg) (show x + 1 ≤ n.toNatClampNeg from hlt)
      rw [Nat.succ_mul] at this; exact this
    have hmul2 : x * (m.toNatClampNeg + 1) + (m.toNatClampNeg + 1) ≤ n.toNatClampNeg * (m.toNatClampNeg + 1) := by
      have := Nat.mul_le_mul_right (m.toNatClampNeg + 1) (show x + 1 ≤ n.toNatClampNeg from hlt)
      rw [Nat.succ_mul] at this; exact this
    simp only [wp_bind']
    refine Jvm.Free.Multi.wp_make2 (by rw [f3]; exact hkc) hkindc href1 (by rw [f3]; exact hkc2) hkindc2 hm hk3 hl2 hh2 hl3 hh3 hdf hdd (by rw [f1]; omega) (by rw [f4]; omega) (fun d2 acts2 => ?_)
    have hlt0 : s.heap.size < (fill3 s c comp comp2 n.toNatClampNeg m.toNatClampNeg k3.toNatClampNeg (defaultValue type) x).heap.size := by rw [f1]; omega
    obtain ⟨g1, g2, g3, g4⟩ := Jvm.Free.Multi.fill_facts (fill3 s c comp comp2 n.toNatClampNeg m.toNatClampNeg k3.toNatClampNeg (defaultValue type) x) comp comp2 m.toNatClampNeg k3.toNatClampNeg (defaultValue type) m.toNatClampNeg
    simp only [wp_bind', W.writeLoc, wp_pure']
    refine ⟨outer3 c n.toNatClampNeg m.toNatClampNeg s.heap.size x, (Jvm.Free.Multi.fill_old (fill3 s c comp comp2 n.toNatClampNeg m.toNatClampNeg k3.toNatClampNeg (defaultValue type) x) comp comp2 m.toNatClampNeg k3.toNatClampNeg (defaultValue type) (a := s.heap.size) hlt0 m.toNatClampNeg).trans f2, by rw [o2]; simp, by rw [o3]; exact hlt, ?_, hnext _ _ _ ⟨x + 1, hlt, hrest, ?_⟩⟩
    · rw [o1, o2]
      simp [State.fitsSlot, State.slotType?, g3, f3, hk, hkind, Jvm.Free.Multi.refFits href _ (Or.inr ⟨_, rfl⟩)]
    · rw [f1]; rfl
  · rintro s' d' acts' ⟨i, hi, hl, rfl⟩
    have hiN : i = n.toNatClampNeg := by
      rcases Nat.lt_or_ge i n.toNatClampNeg with h | h
      · rw [show n.toNatClampNeg - i = (n.toNatClampNeg - (i + 1)) + 1 from by omega, List.range'_succ] at hl; cases hl
      · omega
    subst hiN
    simp only [wp_pure']
    exact hq _ _
end M3
section S3
variable {p : Program} {l : Launch} {e : Env} {R : Room} {s : State} {m : MethodId} {args : Array Value} {below : List Frame} {meth : Method} {c : Code} {T : State} {locs : List Loc} {cells slots : Nat}
theorem filled3 (X : Stand p l e R s m args below meth c T locs cells slots) (cA comp comp2 : ClassId) (N M K : Nat) (dv : Value) :
    ∀ i, ∃ l3 : List Loc, (∀ x ∈ l3, T.heap.size ≤ x.base) ∧ Stand p l e R s m args below meth c (fill3 T cA comp comp2 N M K dv i) (locs ++ l3) (cells + 1 + i * (M + 1)) (slots + N + i * (M + M * K))
  | 0 => by
    have h := X.pushed (outer3 cA N M T.heap.size 0)
    rw [(outer3_facts cA N M T.heap.size 0).2.2] at h
    exact ⟨[], fun x hx => absurd hx List.not_mem_nil, by simpa [fill3] using h⟩
  | i + 1 => by
    obtain ⟨l3, hl3, Xi⟩ := filled3 X cA comp comp2 N M K dv i
    obtain ⟨f1, f2, f3, f4⟩ := fill3_facts T cA comp comp2 N M K dv i
    have h2 := Xi.filled comp comp2 M K dv M
    have hcell : (Jvm.Free.Multi.fill (fill3 T cA comp comp2 N M K dv i) comp comp2 M K dv M).heap[T.heap.size]? = some (outer3 cA N M T.heap.size i) := (Jvm.Free.Multi.fill_old (fill3 T cA comp comp2 N M K dv i) comp comp2 M K dv (a := T.heap.size) (Nat.lt_of_lt_of_le (m := T.heap.size + 1 + i * (M + 1)) (by omega) (Nat.le_of_eq f1.symm)) M).trans f2
    have h := h2.stored hcell i (.ref (T.heap.size + 1 + i * (M + 1)))
    refine ⟨l3 ++ ((List.range M).map fun j => (⟨(fill3 T cA comp comp2 N M K dv i).heap.size, j⟩ : Loc)) ++ [⟨T.heap.size, i⟩], fun x hx => ?_, ?_⟩
    · rcases List.mem_append.mp hx with hx | hx
      · rcases List.mem_append.mp hx with hx | hx
        · exact hl3 x hx
        · obtain ⟨j, -, rfl⟩ := List.mem_map.mp hx
          show _ ≤ (fill3 T cA comp comp2 N M K dv i).heap.size
          rw [f1]; omega
      · rw [List.mem_singleton.mp hx]; exact Nat.le_refl _
    · have e3 : slots + N + (i + 1) * (M + M * K) = slots + N + i * (M + M * K) + M + M * K := by rw [Nat.succ_mul]; omega
      have e4 : cells + 1 + (i + 1) * (M + 1) = cells + 1 + i * (M + 1) + 1 + M := by rw [Nat.succ_mul]; omega
      have e5 : fill3 T cA comp comp2 N M K dv (i + 1) = (Jvm.Free.Multi.fill (fill3 T cA comp comp2 N M K dv i) comp comp2 M K dv M).setCell T.heap.size ((outer3 cA N M T.heap.size i).setSlot i (.ref (T.heap.size + 1 + i * (M + 1)))) := rfl
      rw [e3, e4, e5]
      simpa [List.append_assoc] using h
set_option maxHeartbeats 1000000 in
theorem multi3 (X : Stand p l e R s m args below meth c T locs cells slots) (hexec : p.tables.exec = Jvm.exec) {own : String} {index : Nat} {ty : FieldType}
    (hown : s.vm.findClass own = some m.cls) (hclink : (Cond.classLink own index ("[" ++ (FieldType.array (.array ty)).toString)).before args s = true)
    (hover3 : (Cond.arrayOver (.array (.array ty))).before args s = true) (hover : (Cond.arrayOver (.array ty)).before args s = true) (harr : (Cond.arrayClass ty).before args s = true)
    {g : JFrame} (hg : g.method = m) (hdg : decode c.code g.pc = .ok (.multianewarray index 3, 4)) {n k k3 : Int32} {rest : List Value} (hstack : g.stack = .int k3 :: .int k :: .int n :: rest)
    (hn : ¬ n < 0) (hk : ¬ k < 0) (hk3 : ¬ k3 < 0) (hb1 : n.toNatClampNeg * 4 ≤ 536870912) (hb2 : k.toNatClampNeg * 4 ≤ 536870912) (hb3 : k3.toNatClampNeg * componentBytes ty ≤ 536870912) (hb4 : k3.toNatClampNeg ≤ 536870912)
    (hdf : fits ty (defaultValue ty) = true) (hdd : (defaultValue ty).isDefault = true)
    (hcells : cells + (1 + n.toNatClampNeg * (k.toNatClampNeg + 1)) ≤ R.cells) (hslots : slots + (n.toNatClampNeg + n.toNatClampNeg * (k.toNatClampNeg + k.toNatClampNeg * k3.toNatClampNeg)) ≤ R.slots) :
    ∃ (vm₁ : Vm) (cA comp comp2 : ClassId), s.WarmedH vm₁ ∧ s.vm.findClass ("[" ++ (FieldType.array (.array ty)).toString) = some cA ∧ s.vm.findClass (FieldType.array (.array ty)).toString = some comp ∧ s.vm.findClass (FieldType.array ty).toString = some comp2 ∧
      Stand p l e R s m args below meth c (fill3 (T.setVm vm₁) cA comp comp2 n.toNatClampNeg k.toNatClampNeg k3.toNatClampNeg (defaultValue ty) n.toNatClampNeg) locs (cells + 1 + n.toNatClampNeg * (k.toNatClampNeg + 1)) (slots + n.toNatClampNeg + n.toNatClampNeg * (k.toNatClampNeg + k.toNatClampNeg * k3.toNatClampNeg)) ∧
      ∀ target, Steps p.tables e below ((fill3 (T.setVm vm₁) cA comp comp2 n.toNatClampNeg k.toNatClampNeg k3.toNatClampNeg (defaultValue ty) n.toNatClampNeg).setTop { g with pc := g.pc + 4, stack := .ref T.heap.size :: rest }) target →
        Steps p.tables e below (T.setTop g) target := by
  subst hg
  have hpl : e.platform.magicAccessors = ({} : Platform).magicAccessors := by rw [X.admits.platform]
  obtain ⟨comp, cA, kA, hcomp, hkA, hkindA, hnameA⟩ := Cond.arrayOver_specA hover3
  obtain ⟨comp2, comp', kB, hcomp2, hkB, hkindB, hnameB⟩ := Cond.arrayOver_specA hover
  have ecomp : comp' = comp := Option.some.inj (hnameB.symm.trans hcomp)
  subst ecomp
  obtain ⟨comp2', kC, cc, hcomp', hkC, hkindC⟩ := Cond.arrayClass_spec harr
  have ecomp : comp2' = comp2 := Option.some.inj (hcomp'.symm.trans hcomp2)
  subst ecomp
  obtain ⟨c0, hfc0, hcl⟩ := Cond.classLink_spec hown hclink e.platform hpl
  cases hnameA.symm.trans hfc0
  obtain ⟨hg₁, hwarm₁, hready₁⟩ := State.classEntry (e := e) X.warmed hcl
  generalize T.vm.noted g.method.cls index (.cls cA) = vm₁ at hg₁ hwarm₁ hready₁
  have hal : s.vm.Alike vm₁ := hwarm₁.alike
  obtain ⟨kA₁, hkA₁, heA⟩ := hal.2.2 _ _ hkA
  obtain ⟨kB₁, hkB₁, heB⟩ := hal.2.2 _ _ hkB
  obtain ⟨kC₁, hkC₁, heC⟩ := hal.2.2 _ _ hkC
  have hkindA₁ : kA₁.kind = .array comp' (.array (.array ty)) := by rw [heA]; exact hkindA
  have hkindB₁ : kB₁.kind = .array comp2' (.array ty) := by rw [heB]; exact hkindB
  have hkindC₁ : kC₁.kind = .array cc ty := by rw [heC]; exact hkindC
  have X₁ := X.noted hwarm₁
  obtain ⟨hr1, hr2⟩ := X.roomAbove hcells hslots
  obtain ⟨l3, hl3, XF⟩ := filled3 X₁ cA comp' comp2' n.toNatClampNeg k.toNatClampNeg k3.toNatClampNeg (defaultValue ty) n.toNatClampNeg
  refine ⟨vm₁, cA, comp', comp2', hwarm₁, hnameA, hcomp, hcomp2, XF.dropFresh (fun x hx => Nat.le_trans X.heapGrown (hl3 x hx)), fun target hrest => ?_⟩
  have hl1 : ¬ n.toNatClampNeg > e.platform.arrayLengthLimit := by rw [Launch.admits_arrayLengthLimit X.admits]; omega
  have hh1 : ¬ n.toNatClampNeg * componentBytes (.array (.array ty)) > e.platform.maxHeapBytes := by
    rw [Launch.admits_maxHeapBytes X.admits]; show ¬ n.toNatClampNeg * 4 > 536870912; omega
  have hl2 : ¬ k.toNatClampNeg > e.platform.arrayLengthLimit := by rw [Launch.admits_arrayLengthLimit X.admits]; omega
  have hh2 : ¬ k.toNatClampNeg * componentBytes (.array ty) > e.platform.maxHeapBytes := by
    rw [Launch.admits_maxHeapBytes X.admits]; show ¬ k.toNatClampNeg * 4 > 536870912; omega
  have hl3' : ¬ k3.toNatClampNeg > e.platform.arrayLengthLimit := by rw [Launch.admits_arrayLengthLimit X.admits]; omega
  have hh3 : ¬ k3.toNatClampNeg * componentBytes ty > e.platform.maxHeapBytes := by rw [Launch.admits_maxHeapBytes X.admits]; omega
  jvm_step X.here [hexec, hdg]
  simp only [Jvm.Op.multianewarray.sem, wp_bind', W.resolveClassAt_links (State.method?_setTop g X.here.top) hg₁]
  rw [W.popN, if_neg (by decide)]
  refine ⟨g, State.topJava?_setTop' (s := T.setVm vm₁) g X.here.top, [.int n, .int k, .int k3], rest, rfl, hstack, ?_⟩
  simp only [List.mapM_cons, List.mapM_nil, wp_bind', wp_pure']
  refine wp_make3 (k := kA₁) (kc := kB₁) (kc2 := kC₁) (comp := comp') (comp2 := comp2') (cc := cc) (t0 := .array (.array ty)) (t1 := .array ty) (type := ty) hkA₁ hkindA₁ rfl hkB₁ hkindB₁ rfl hkC₁ hkindC₁ hn hk hk3 hl1 hh1 hl2 hh2 hl3' hh3 hdf hdd (by show T.heap.size + 1 + _ ≤ _; omega) (by show T.slotsUsed + _ + _ ≤ _; omega) (fun d' acts' => ?_)
  have eS : ((T.setTop g).setVm vm₁).setTop { g with stack := rest } = (T.setVm vm₁).setTop { g with stack := rest } := by
    show ((T.setVm vm₁).setTop g).setTop _ = _
    rw [State.setTop_setTop]
  rw [eS, fill3_setTop]
  simp only [wp_bind', W.mark, W.pushRef, State.topJava?_setTop' _ XF.here.top, Option.some.injEq, exists_eq_left', State.setTop_setTop, State.heap_setTop]
  intro acts
  simp [jvm, XF.here.top]
  exact hrest
end S3
section XM
variable {G : Gv} {d : Nat} {own nm : String} {cc : ByteArray} {nL : Nat} {ret : Option FieldType} {mc ms : Nat} {Q : Option Value → AH → Prop} {pc : Nat} {l : List (Nat × Value)} {st : List Value} {h : AH}
/-- addresses of new places, one behind the other -/
def ad_k (ad : Nat → Nat) (n a : Nat) : Nat → Nat := fun q => if n ≤ q then a + (q - n) else ad q
theorem ad_kl {ad : Nat → Nat} {n a q : Nat} (hq : q < n) : ad_k ad n a q = ad q := if_neg (by omega)
theorem ad_kg {ad : Nat → Nat} {n a j : Nat} : ad_k ad n a (n + j) = a + j := by
  unfold ad_k; rw [if_pos (by omega)]; congr 1; omega
theorem st_many {R : Room} {s : State} {ad0 : Nat → Nat} {n0 : Nat} {ad : Nat → Nat} {H H1 : Heap} {locs : List Loc} {cells slots N k : Nat} {ls : Array Slot} {h' : AH} (S : st_ok G nL (mc + k) (ms + N) R s ad0 n0 ad H locs cells slots ls l h) (hs0 : (gv_s G).heap.size ≤ s.heap.size) (hol : ∀ q, q < (gv_s G).heap.size → s.heap[q]? = (gv_s G).heap[q]?)
    (hn : hp_n h' = hp_n h + k) (hsm : ∀ q, q < hp_n h → sm_ h h' q) (hkd : kd_ok h') (ho : ∀ q, q < H.size → H1[q]? = H[q]?) (hz : H1.size = H.size + k) (hnew : ∀ i, i < k → va_at (gv_D G) clA (ce_ (ad_k ad (hp_n h) H.size) (gv_t G) h' (hp_n h + i)) H1) : st_ok G nL mc ms R s ad0 n0 (ad_k ad (hp_n h) H.size) H1 locs (cells + k) (slots + N) ls l h' := by
  obtain ⟨⟨S1, S2, S3, S4, S5, S6⟩, T2, T3, T4, T5, T6, T7, T8⟩ := S
  have h30 := S5.1
  have ha : ∀ q, q < hp_n h → ad_k ad (hp_n h) H.size q = ad q := fun q hq => ad_kl hq
  have hce : ∀ q, q < hp_n h → ce_ (ad_k ad (hp_n h) H.size) (gv_t G) h' q = ce_ ad (gv_t G) h q := fun q hq => ce_sm (hsm q hq) (ha q hq) (fun j => by
    cases hy : hp_R h q j with
    | none => rfl
    | some y => show some _ = some _; rw [ha y (S5.2.2 q j y hq hy)])
  have hlen : (wd_ ad (gv_t G) h).length = hp_n h - 30 := by simp [wd_]
  have hwd : ∀ i, (wd_ (ad_k ad (hp_n h) H.size) (gv_t G) h')[i]? = if i < hp_n h - 30 then (wd_ ad (gv_t G) h)[i]? else if i < hp_n h - 30 + k then some (ce_ (ad_k ad (hp_n h) H.size) (gv_t G) h' (i + 30)) else none := fun i => by
    by_cases z : i < hp_n h - 30
    · rw [if_pos z]
      unfold wd_
      rw [hn, List.getElem?_map, List.getElem?_map, List.getElem?_range (by omega), List.getElem?_range z]
      exact congrArg some (hce (i + 30) (by omega))
    · rw [if_neg z]
      by_cases y : i < hp_n h - 30 + k
      · rw [if_pos y]
        unfold wd_
        rw [hn, List.getElem?_map, List.getElem?_range (by omega)]
        rfl
      · rw [if_neg y, List.getElem?_eq_none (by simp [wd_]; omega)]
  have hadr : ∀ i q, (wd_ (ad_k ad (hp_n h) H.size) (gv_t G) h')[i]? = some q → (i < hp_n h - 30 ∧ (wd_ ad (gv_t G) h)[i]? = some q ∧ q.1 < H.size) ∨ (hp_n h - 30 ≤ i ∧ i < hp_n h - 30 + k ∧ q = ce_ (ad_k ad (hp_n h) H.size) (gv_t G) h' (i + 30) ∧ q.1 = H.size + (i + 30 - hp_n h)) := fun i q e => by
    rw [hwd i] at e
    by_cases z : i < hp_n h - 30
    · rw [if_pos z] at e
      exact Or.inl ⟨z, e, (S1 i q e).lt⟩
    · rw [if_neg z] at e
      by_cases y : i < hp_n h - 30 + k
      · rw [if_pos y] at e
        cases e
        refine Or.inr ⟨by omega, y, rfl, ?_⟩
        show ad_k ad (hp_n h) H.size (i + 30) = _
        rw [show i + 30 = hp_n h + (i + 30 - hp_n h) by omega, ad_kg]
        omega
      · rw [if_neg y] at e; cases e
  refine ⟨⟨fun i q e => ?_, ⟨fun i j p q e1 e2 e3 => ?_, fun i q e => ?_⟩, fun q hq => ?_, by omega, hkd, fun q hq => ?_⟩, by rw [hn]; omega, fun q hq => ?_, ⟨by have := T4.1; omega, fun q h1 h2 => (ho q (Nat.lt_of_lt_of_le h1 T4.1)).trans (T4.2.1 q h1 h2), T4.2.2⟩, by omega, by omega, by rw [cps_same ha T8]; exact T7, fun q hq => vi_up (by rw [hn]; omega) (T8 q hq)⟩
  · rcases hadr i q e with ⟨z, y, x⟩ | ⟨z, y, rfl, -⟩
    · exact va_at.kept (S1 i q y) (ho _ x)
    · have := hnew (i + 30 - hp_n h) (by omega)
      rw [show hp_n h + (i + 30 - hp_n h) = i + 30 by omega] at this
      exact this
  · rcases hadr i p e1 with ⟨z1, y1, x1⟩ | ⟨z1, y1, -, x1⟩ <;> rcases hadr j q e2 with ⟨z2, y2, x2⟩ | ⟨z2, y2, -, x2⟩
    · exact S2.1 i j p q y1 y2 e3
    · omega
    · omega
    · omega
  · rcases hadr i q e with ⟨z1, y1, x1⟩ | ⟨z1, y1, -, x1⟩
    · exact S2.2 i q y1
    · show (gv_s G).heap.size ≤ q.1
      rw [x1]; omega
  · rw [ho q (by omega)]; exact S3 q hq
  · rw [ha q (by omega)]; exact S6 q hq
  · rw [ha q (by omega)]; exact T3 q hq
/-- what the tables say of arrays of arrays -/
def ga_ok (G : Gv) : Prop := (Cond.arrayOver (.array .int)).before #[] (gv_s G) = true ∧ (Cond.arrayOver (.array .boolean)).before #[] (gv_s G) = true ∧ (Cond.arrayOver (.array (.array .boolean))).before #[] (gv_s G) = true
theorem ao_spec {args : Array Value} {u : State} {t : FieldType} (h : (Cond.arrayOver (.array t)).before args u = true) :
    ∃ comp c k, u.vm.findClass (FieldType.array t).toString = some comp ∧ (u.vm.classes.findIdx? fun x => match x.kind with | .array component _ => component == comp | _ => false) = some c ∧ u.vm.classes[c]? = some k ∧ k.kind = .array comp (.array t) ∧ u.vm.findClass ("[" ++ (FieldType.array t).toString) = some c := by
  simp only [Cond.before, Cond.holds, Cond.value, beq_iff_eq] at h
  cases hc : u.vm.findClass (FieldType.array t).toString with
  | none => simp [hc] at h
  | some comp =>
    simp only [hc, Option.bind_some, Option.bind_eq_some_iff, Option.map_eq_some_iff] at h
    obtain ⟨c, hi, k, hk, hb⟩ := h
    obtain ⟨hlt, hp, -⟩ := Array.findIdx?_eq_some_iff_getElem.mp hi
    have hkk : u.vm.classes[c] = k := (Array.getElem?_eq_some_iff.mp hk).2
    rw [hkk] at hp
    cases hkind : k.kind with
    | array component ty =>
      rw [hkind] at hb hp
      simp at hb hp
      exact ⟨comp, c, k, rfl, hi, hk, by rw [hkind, hp, hb.1], hb.2⟩
    | _ => rw [hkind] at hb; simp at hb
theorem ao_mv {t : FieldType} {u U : State} {a1 a2 : Array Value} (hvm : u.vm.Alike U.vm) (h : (Cond.arrayOver (.array t)).before a1 u = true) : (Cond.arrayOver (.array t)).before a2 U = true := by
  obtain ⟨comp, c, k, h1, h2, h3, h4, h5⟩ := ao_spec h
  obtain ⟨k', hk', he⟩ := hvm.2.2 _ _ h3
  have hi : (U.vm.classes.findIdx? fun (x : Class) => match x.kind with | .array component _ => component == comp | _ => false) = some c := by
    have q1 := va_idx_bare U.vm comp
    have q2 := va_idx_bare u.vm comp
    exact (q1.symm.trans (by first | (rw [hvm.bare_eq]; exact q2) | (rw [← hvm.bare_eq]; exact q2))).trans h2
  have hkind : k'.kind = .array comp (.array t) := by rw [he]; exact h4
  have f1 : U.vm.findClass (FieldType.array t).toString = some comp := by rw [hvm.findClass]; exact h1
  have f2 : U.vm.findClass ("[" ++ (FieldType.array t).toString) = some c := by rw [hvm.findClass]; exact h5
  unfold Cond.before Cond.holds
  simp only [Cond.value]
  rw [f1, Option.bind_some]
  refine (congrArg (fun o : Option Nat => (o.bind (fun c => (U.vm.classes[c]?).map fun (k : Class) => match k.kind with | .array _ ty => decide (ty = FieldType.array t) && decide (U.vm.findClass ("[" ++ (FieldType.array t).toString) = some c) | _ => false) == some true)) hi).trans ?_
  simp [hk', hkind, f2]
theorem cell_ext {c : Cell} {cA : ClassId} {N : Nat} {f : Nat → Value} (h1 : c.cls = cA) (h2 : c.vm = .none) (h3 : c.slots.size = N) (h5 : c.monitor = {}) (h6 : c.hash = none) (h4 : ∀ j, j < N → c.slots[j]? = some (f j)) : c = arrV cA N f := by
  have hs : c.slots = (arrV cA N f).slots := Array.ext_getElem? (fun j => by
    by_cases hj : j < N
    · rw [h4 j hj, arrV_read cA f hj]
    · rw [Array.getElem?_eq_none (by omega), Array.getElem?_eq_none (by rw [arrV_size]; omega)])
  cases c with
  | mk a b mo ha vm =>
    dsimp only at h1 h2 h5 h6 hs
    subst h1; subst h2; subst h5; subst h6; subst hs
    rfl
theorem outerC_mh (c : ClassId) (N h0 : Nat) : ∀ i, (Jvm.Free.Multi.outerC c N h0 i).monitor = {} ∧ (Jvm.Free.Multi.outerC c N h0 i).hash = none
  | 0 => ⟨rfl, rfl⟩
  | i + 1 => outerC_mh c N h0 i
theorem outer3_mh (c : ClassId) (N M h0 : Nat) : ∀ i, (outer3 c N M h0 i).monitor = {} ∧ (outer3 c N M h0 i).hash = none
  | 0 => ⟨rfl, rfl⟩
  | i + 1 => outer3_mh c N M h0 i
/-- an array of so many arrays of ints -/
def mk2_ (h : AH) (N M : Nat) : AH := (h.1 + (N + 1), (fun p => if p < h.1 then h.2.1 p else if p = h.1 then (104, N) else if p < h.1 + (N + 1) then (100, M) else h.2.1 p), (fun p k => if p < h.1 then h.2.2.1 p k else 0), (fun p k => if p < h.1 then h.2.2.2.1 p k else 0), (fun p k => if p < h.1 then h.2.2.2.2 p k else if p = h.1 ∧ k < N then some (h.1 + 1 + k) else none))
theorem mk2_sm {N M q : Nat} (hq : q < hp_n h) : sm_ h (mk2_ h N M) q := ⟨if_pos hq, fun _ => if_pos hq, fun _ => if_pos hq, fun _ => if_pos hq⟩
theorem mk2_n {N M : Nat} : hp_n (mk2_ h N M) = hp_n h + (N + 1) := rfl
theorem mk2_K0 {N M : Nat} : hp_K (mk2_ h N M) (hp_n h) = (104, N) := by
  show (if h.1 < h.1 then _ else if h.1 = h.1 then _ else _) = _
  rw [if_neg (Nat.lt_irrefl _), if_pos rfl]
theorem mk2_K1 {N M j : Nat} (hj : j < N) : hp_K (mk2_ h N M) (hp_n h + 1 + j) = (100, M) := by
  show (if h.1 + 1 + j < h.1 then _ else if h.1 + 1 + j = h.1 then _ else if h.1 + 1 + j < h.1 + (N + 1) then _ else _) = _
  rw [if_neg (by omega), if_neg (by omega), if_pos (by omega)]
theorem mk2_R0 {N M k : Nat} (hk : k < N) : hp_R (mk2_ h N M) (hp_n h) k = some (hp_n h + 1 + k) := by
  show (if h.1 < h.1 then _ else if h.1 = h.1 ∧ k < N then _ else _) = _
  rw [if_neg (Nat.lt_irrefl _), if_pos ⟨rfl, hk⟩]; rfl
theorem mk2_I {N M p k : Nat} (hp : hp_n h ≤ p) : hp_I (mk2_ h N M) p k = 0 := if_neg (Nat.not_lt.mpr hp)
theorem mk2_kd {N M : Nat} (hk : kd_ok h) : kd_ok (mk2_ h N M) := by
  refine ⟨by have := hk.1; rw [mk2_n]; omega, fun p hp => ?_, fun p k y hp e => ?_⟩
  · show (if p < h.1 then hp_K h p else if p = h.1 then _ else if p < h.1 + (N + 1) then _ else hp_K h p).1 = 999
    rw [mk2_n] at hp
    have hp : p < 30 ∨ h.1 + (N + 1) ≤ p := hp
    have h30 : 30 ≤ h.1 := hk.1
    rcases hp with z | z
    · rw [if_pos (by omega)]; exact hk.2.1 p (Or.inl z)
    · rw [if_neg (by omega), if_neg (by omega), if_neg (by omega)]; exact hk.2.1 p (Or.inr (by show h.1 ≤ p; omega))
  · have e : (if p < h.1 then hp_R h p k else if p = h.1 ∧ k < N then some (h.1 + 1 + k) else none) = some y := e
    rw [mk2_n]
    by_cases z : p < h.1
    · rw [if_pos z] at e
      have : y < hp_n h := hk.2.2 p k y z e
      omega
    · rw [if_neg z] at e
      by_cases u : p = h.1 ∧ k < N
      · rw [if_pos u] at e; cases e; show h.1 + 1 + k < h.1 + (N + 1); omega
      · rw [if_neg u] at e; cases e
set_option maxHeartbeats 1000000 in
theorem v_mult2 {idx N M : Nat} {i0 i1 : Int32} (hga : ga_ok G) (h0 : i0 = nI N) (h1 : i1 = nI M) (hN : N < 100000) (hM : M < 100000) (hcl : Cond.classLink own idx "[[I" ∈ lw_all) (hdg : decode cc pc = .ok (.multianewarray idx 2, 4)) (kk : Vv G d own nm cc nL ret mc ms Q (pc + 4) l (.ref (hp_n h) :: st) (mk2_ h N M)) : Vv G d own nm cc nL ret (mc + (N + 1)) (ms + (N + N * M)) Q pc l (.int i1 :: .int i0 :: st) h := fun pg e R s m args below meth c Z ad0 n0 hC hE ad H locs cells slots ls S V => by
  subst h0; subst h1
  intro T hT X
  subst hT
  have hts := hC.2.2.2.2.1
  have hev := hC.2.2.2.2.2.1
  have cN : (nI N).toNatClampNeg = N := nI_clamp (by omega)
  have cM : (nI M).toNatClampNeg = M := nI_clamp (by omega)
  have hal : (gv_s G).vm.Alike s.vm := hev.2.2.1.alike
  have e1 := S.2.2.2.2.1
  have e2 := S.2.2.2.2.2.1
  obtain ⟨vm₁, cA, comp, hW, hfA, hfC, -, -, X1, step⟩ := X.multianewarray2F hC.1 (own := own) (index := idx) (ty := .int) hC.2.2.2.1 (hts _ hcl) (ao_mv hal hga.1) (hts _ q209)
    (g := F0 m pc ls ((Value.int (nI M) :: Value.int (nI N) :: st).map (cv_ ad))) rfl (by rw [hC.2.1]; exact hdg) (n := nI N) (k := nI M) (rest := st.map (cv_ ad)) rfl (nI_pos (by omega)) (nI_pos (by omega)) (by rw [cN]; omega) (by rw [cM]; show M * 4 ≤ _; omega) (by rw [cM]; omega) rfl rfl (by rw [cN]; omega) (by rw [cN, cM]; omega)
  rw [cN, cM] at X1 step
  have hA4 : cA = gv_t G 4 := Option.some.inj (hfA.symm.trans ((hev.1.2 4 (gv_t G 4, .array .int) rfl).2))
  have hA0 : comp = gv_t G 0 := Option.some.inj (hfC.symm.trans ((hev.1.2 0 (gv_t G 0, .int) rfl).2))
  subst hA4; subst hA0
  generalize hT1 : T.setVm vm₁ = T1 at X1 step
  have hT1h : T1.heap = T.heap := by rw [← hT1]; rfl
  obtain ⟨f1, f2, f3, f4⟩ := Jvm.Free.Multi.fill_facts T1 (gv_t G 4) (gv_t G 0) N M (defaultValue .int) N
  rw [hT1h] at f1 f2
  have hkd := S.1.2.2.2.2.1
  have V' := vs_t (vs_t V)
  have hnew : ∀ i, i < N + 1 → va_at (gv_D G) clA (ce_ (ad_k ad (hp_n h) T.heap.size) (gv_t G) (mk2_ h N M) (hp_n h + i)) (Jvm.Free.Multi.fill T1 (gv_t G 4) (gv_t G 0) N M (defaultValue .int) N).heap := fun i hi => by
    rcases Nat.eq_zero_or_pos i with z | z
    · subst z
      rw [Nat.add_zero, ce_arr (t := 4) (n := N) (by exact mk2_K0)]
      show _ = some (vp_cell _ _)
      unfold ar_c
      rw [if_neg (by decide), if_neg (by decide)]
      show (Jvm.Free.Multi.fill T1 (gv_t G 4) (gv_t G 0) N M (defaultValue .int) N).heap[ad_k ad (hp_n h) T.heap.size (hp_n h)]? = some (arrV (gv_t G 4) N (fun j => va_rf ((hp_R (mk2_ h N M) (hp_n h) j).map (ad_k ad (hp_n h) T.heap.size))))
      rw [show ad_k ad (hp_n h) T.heap.size (hp_n h) = T.heap.size from by have := ad_kg (ad := ad) (n := hp_n h) (a := T.heap.size) (j := 0); exact this, f2]
      refine congrArg some (cell_ext (Jvm.Free.Multi.outerC_facts _ _ _ _).1 (Jvm.Free.Multi.outerC_facts _ _ _ _).2.1 (Jvm.Free.Multi.outerC_facts _ _ _ _).2.2 (outerC_mh _ _ _ _).1 (outerC_mh _ _ _ _).2 (fun j hj => ?_))
      rw [Jvm.Free.Multi.outerC_slot _ _ _ _ j hj, if_pos hj, mk2_R0 hj]
      show some (Value.ref (T.heap.size + 1 + j)) = some (Value.ref (ad_k ad (hp_n h) T.heap.size (hp_n h + 1 + j)))
      rw [show hp_n h + 1 + j = hp_n h + (1 + j) by omega, ad_kg]
      rw [show T.heap.size + (1 + j) = T.heap.size + 1 + j by omega]
    · obtain ⟨j, rfl⟩ : ∃ j, i = j + 1 := ⟨i - 1, by omega⟩
      rw [show hp_n h + (j + 1) = hp_n h + 1 + j by omega, ce_arr (t := 0) (n := M) (by exact mk2_K1 (by omega))]
      show _ = some (vp_cell _ _)
      unfold ar_c
      rw [if_pos (by decide)]
      show (Jvm.Free.Multi.fill T1 (gv_t G 4) (gv_t G 0) N M (defaultValue .int) N).heap[ad_k ad (hp_n h) T.heap.size (hp_n h + 1 + j)]? = some (arrV (gv_t G 0) M (fun k => .int (hp_I (mk2_ h N M) (hp_n h + 1 + j) k)))
      rw [show hp_n h + 1 + j = hp_n h + (1 + j) by omega, ad_kg, show T.heap.size + (1 + j) = T.heap.size + 1 + j by omega, ← hT1h, Jvm.Free.Multi.fill_inner T1 _ _ _ _ _ _ j (by omega)]
      refine congrArg some (cell_ext rfl rfl (by simp [Jvm.Free.Multi.innerC]) rfl rfl (fun k hk => ?_))
      rw [mk2_I (by omega)]
      simp [Jvm.Free.Multi.innerC, hk, defaultValue]
  have k9 := kk pg e R s m args below meth c Z ad0 n0 hC hE (ad_k ad (hp_n h) T.heap.size) (Jvm.Free.Multi.fill T1 (gv_t G 4) (gv_t G 0) N M (defaultValue .int) N).heap locs (cells + (N + 1)) (slots + (N + N * M)) ls
    (st_many S hC.2.2.2.2.2.2.2.2.2.1 hC.2.2.2.2.2.2.2.2.2.2 mk2_n (fun q hq => mk2_sm hq) (mk2_kd hkd) (fun q hq => by rw [Jvm.Free.Multi.fill_old _ _ _ _ _ _ (by rw [hT1h]; exact hq), hT1h]) (by rw [f1]; omega) hnew)
    (vs_c (by show hp_n h < hp_n h + (N + 1); omega) (fun v hv => vi_up (by rw [mk2_n]; omega) (V' v hv)))
  have e3 : (Value.ref (hp_n h) :: st).map (cv_ (ad_k ad (hp_n h) T.heap.size)) = Value.ref T.heap.size :: st.map (cv_ ad) := by
    show Value.ref (ad_k ad (hp_n h) T.heap.size (hp_n h)) :: _ = _
    rw [show ad_k ad (hp_n h) T.heap.size (hp_n h) = T.heap.size from by have := ad_kg (ad := ad) (n := hp_n h) (a := T.heap.size) (j := 0); exact this, cvs_same (n := hp_n h) (fun x hx => ad_kl hx) V']
  rw [e3] at k9
  obtain ⟨t, a1, b1⟩ := k9 _ rfl (by rw [show cells + (N + 1) = cells + 1 + N by omega, show slots + (N + N * M) = slots + N + N * M by omega]; exact X1)
  exact ⟨t, step t a1, b1⟩
/-- an array of N arrays of M arrays of K booleans -/
def mk3_ (h : AH) (N M K : Nat) : AH := (h.1 + (1 + N * (M + 1)), (fun p => if p < h.1 then h.2.1 p else if p = h.1 then (105, N) else if p < h.1 + (1 + N * (M + 1)) then (if (p - h.1 - 1) % (M + 1) = 0 then (106, M) else (101, K)) else h.2.1 p), (fun p k => if p < h.1 then h.2.2.1 p k else 0), (fun p k => if p < h.1 then h.2.2.2.1 p k else 0), (fun p k => if p < h.1 then h.2.2.2.2 p k else if p = h.1 then (if k < N then some (h.1 + 1 + k * (M + 1)) else none) else if p < h.1 + (1 + N * (M + 1)) ∧ (p - h.1 - 1) % (M + 1) = 0 ∧ k < M then some (p + 1 + k) else none))
theorem m3_le {N M i : Nat} (hi : i < N) : i * (M + 1) + (M + 1) ≤ N * (M + 1) := by
  have := Nat.mul_le_mul_right (M + 1) (show i + 1 ≤ N from hi)
  rw [Nat.succ_mul] at this; exact this
theorem mk3_sm {N M K q : Nat} (hq : q < hp_n h) : sm_ h (mk3_ h N M K) q := ⟨if_pos hq, fun _ => if_pos hq, fun _ => if_pos hq, fun _ => if_pos hq⟩
theorem mk3_n {N M K : Nat} : hp_n (mk3_ h N M K) = hp_n h + (1 + N * (M + 1)) := rfl
theorem mk3_K0 {N M K : Nat} : hp_K (mk3_ h N M K) (hp_n h) = (105, N) := by
  show (if h.1 < h.1 then _ else if h.1 = h.1 then _ else _) = _
  rw [if_neg (Nat.lt_irrefl _), if_pos rfl]
theorem mk3_K1 {N M K i : Nat} (hi : i < N) : hp_K (mk3_ h N M K) (hp_n h + 1 + i * (M + 1)) = (106, M) := by
  have := m3_le (M := M) hi
  show (if h.1 + 1 + i * (M + 1) < h.1 then _ else if h.1 + 1 + i * (M + 1) = h.1 then _ else if h.1 + 1 + i * (M + 1) < h.1 + (1 + N * (M + 1)) then _ else _) = _
  rw [if_neg (by omega), if_neg (by omega), if_pos (by omega), show hp_n h + 1 + i * (M + 1) - h.fst - 1 = i * (M + 1) from by have : hp_n h = h.1 := rfl; omega, if_pos (Nat.mul_mod_left _ _)]
theorem m3_mod {M i j : Nat} (hj : j < M) : (i * (M + 1) + 1 + j) % (M + 1) = 1 + j := by
  rw [Nat.add_assoc, Nat.add_comm, Nat.add_mul_mod_self_right]
  exact Nat.mod_eq_of_lt (by omega)
theorem mk3_K2 {N M K i j : Nat} (hi : i < N) (hj : j < M) : hp_K (mk3_ h N M K) (hp_n h + 1 + i * (M + 1) + 1 + j) = (101, K) := by
  have := m3_le (M := M) hi
  show (if h.1 + 1 + i * (M + 1) + 1 + j < h.1 then _ else if h.1 + 1 + i * (M + 1) + 1 + j = h.1 then _ else if h.1 + 1 + i * (M + 1) + 1 + j < h.1 + (1 + N * (M + 1)) then _ else _) = _
  rw [if_neg (by omega), if_neg (by omega), if_pos (by omega), show hp_n h + 1 + i * (M + 1) + 1 + j - h.fst - 1 = i * (M + 1) + 1 + j from by have : hp_n h = h.1 := rfl; omega, m3_mod hj, if_neg (by omega)]
theorem mk3_R0 {N M K k : Nat} (hk : k < N) : hp_R (mk3_ h N M K) (hp_n h) k = some (hp_n h + 1 + k * (M + 1)) := by
  show (if h.1 < h.1 then _ else if h.1 = h.1 then (if k < N then some (h.1 + 1 + k * (M + 1)) else none) else _) = _
  rw [if_neg (Nat.lt_irrefl _), if_pos rfl, if_pos hk]; rfl
theorem mk3_R1 {N M K i k : Nat} (hi : i < N) (hk : k < M) : hp_R (mk3_ h N M K) (hp_n h + 1 + i * (M + 1)) k = some (hp_n h + 1 + i * (M + 1) + 1 + k) := by
  have := m3_le (M := M) hi
  show (if h.1 + 1 + i * (M + 1) < h.1 then _ else if h.1 + 1 + i * (M + 1) = h.1 then _ else if h.1 + 1 + i * (M + 1) < h.1 + (1 + N * (M + 1)) ∧ (h.1 + 1 + i * (M + 1) - h.1 - 1) % (M + 1) = 0 ∧ k < M then some (h.1 + 1 + i * (M + 1) + 1 + k) else none) = _
  rw [if_neg (by omega), if_neg (by omega), if_pos ⟨by omega, by rw [show h.1 + 1 + i * (M + 1) - h.1 - 1 = i * (M + 1) by omega]; exact Nat.mul_mod_left _ _, hk⟩]; rfl
theorem mk3_I {N M K p k : Nat} (hp : hp_n h ≤ p) : hp_I (mk3_ h N M K) p k = 0 := if_neg (Nat.not_lt.mpr hp)
theorem mk3_kd {N M K : Nat} (hk : kd_ok h) : kd_ok (mk3_ h N M K) := by
  refine ⟨by have := hk.1; rw [mk3_n]; omega, fun p hp => ?_, fun p k y hp e => ?_⟩
  · show (if p < h.1 then hp_K h p else if p = h.1 then _ else if p < h.1 + (1 + N * (M + 1)) then _ else hp_K h p).1 = 999
    rw [mk3_n] at hp
    have hp : p < 30 ∨ h.1 + (1 + N * (M + 1)) ≤ p := hp
    have h30 : 30 ≤ h.1 := hk.1
    rcases hp with z | z
    · rw [if_pos (by omega)]; exact hk.2.1 p (Or.inl z)
    · rw [if_neg (by omega), if_neg (by omega), if_neg (by omega)]; exact hk.2.1 p (Or.inr (by show h.1 ≤ p; omega))
  · have e : (if p < h.1 then hp_R h p k else if p = h.1 then (if k < N then some (h.1 + 1 + k * (M + 1)) else none) else if p < h.1 + (1 + N * (M + 1)) ∧ (p - h.1 - 1) % (M + 1) = 0 ∧ k < M then some (p + 1 + k) else none) = some y := e
    rw [mk3_n]
    rw [mk3_n] at hp
    show y < h.1 + (1 + N * (M + 1))
    have hp : p < h.1 + (1 + N * (M + 1)) := hp
    by_cases z : p < h.1
    · rw [if_pos z] at e
      have : y < h.1 := hk.2.2 p k y z e
      omega
    · rw [if_neg z] at e
      by_cases u : p = h.1
      · rw [if_pos u] at e
        by_cases v : k < N
        · rw [if_pos v] at e; cases e
          have := m3_le (M := M) v
          omega
        · rw [if_neg v] at e; cases e
      · rw [if_neg u] at e
        by_cases v : p < h.1 + (1 + N * (M + 1)) ∧ (p - h.1 - 1) % (M + 1) = 0 ∧ k < M
        · rw [if_pos v] at e; cases e
          have hd := Nat.div_add_mod (p - h.1 - 1) (M + 1)
          rw [v.2.1, Nat.add_zero, Nat.mul_comm] at hd
          have hq : (p - h.1 - 1) / (M + 1) < N := Nat.div_lt_of_lt_mul (by rw [Nat.mul_comm]; omega)
          have := m3_le (M := M) hq
          omega
        · rw [if_neg v] at e; cases e
set_option maxHeartbeats 1000000 in
theorem v_mult3 {idx N M K : Nat} {i0 i1 i2 : Int32} (hga : ga_ok G) (h0 : i0 = nI N) (h1 : i1 = nI M) (h2 : i2 = nI K) (hN : N < 1000) (hM : M < 1000) (hK : K < 1000) (hcl : Cond.classLink own idx "[[[Z" ∈ lw_all) (hdg : decode cc pc = .ok (.multianewarray idx 3, 4)) (kk : Vv G d own nm cc nL ret mc ms Q (pc + 4) l (.ref (hp_n h) :: st) (mk3_ h N M K)) : Vv G d own nm cc nL ret (mc + (1 + N * (M + 1))) (ms + (N + N * (M + M * K))) Q pc l (.int i2 :: .int i1 :: .int i0 :: st) h := fun pg e R s m args below meth c Z ad0 n0 hC hE ad H locs cells slots ls S V => by
  subst h0; subst h1; subst h2
  intro T hT X
  subst hT
  have hts := hC.2.2.2.2.1
  have hev := hC.2.2.2.2.2.1
  have cN : (nI N).toNatClampNeg = N := nI_clamp (by omega)
  have cM : (nI M).toNatClampNeg = M := nI_clamp (by omega)
  have cK : (nI K).toNatClampNeg = K := nI_clamp (by omega)
  have hal : (gv_s G).vm.Alike s.vm := hev.2.2.1.alike
  have e1 := S.2.2.2.2.1
  have e2 := S.2.2.2.2.2.1
  obtain ⟨vm₁, cA, comp, comp2, hW, hfA, hfC, hfD, X1, step⟩ := multi3 X hC.1 (own := own) (index := idx) (ty := .boolean) hC.2.2.2.1 (hts _ hcl) (ao_mv hal hga.2.2) (ao_mv hal hga.2.1) (hts _ q360)
    (g := F0 m pc ls ((Value.int (nI K) :: Value.int (nI M) :: Value.int (nI N) :: st).map (cv_ ad))) rfl (by rw [hC.2.1]; exact hdg) (n := nI N) (k := nI M) (k3 := nI K) (rest := st.map (cv_ ad)) rfl (nI_pos (by omega)) (nI_pos (by omega)) (nI_pos (by omega)) (by rw [cN]; omega) (by rw [cM]; omega) (by rw [cK]; show K * 1 ≤ _; omega) (by rw [cK]; omega) rfl rfl (by rw [cN, cM]; omega) (by rw [cN, cM, cK]; omega)
  rw [cN, cM, cK] at X1 step
  have hA5 : cA = gv_t G 5 := Option.some.inj (hfA.symm.trans ((hev.1.2 5 (gv_t G 5, .array (.array .boolean)) rfl).2))
  have hA6 : comp = gv_t G 6 := Option.some.inj (hfC.symm.trans ((hev.1.2 6 (gv_t G 6, .array .boolean) rfl).2))
  have hA1 : comp2 = gv_t G 1 := Option.some.inj (hfD.symm.trans ((hev.1.2 1 (gv_t G 1, .boolean) rfl).2))
  subst hA5; subst hA6; subst hA1
  generalize hT1 : T.setVm vm₁ = T1 at X1 step
  have hT1h : T1.heap = T.heap := by rw [← hT1]; rfl
  obtain ⟨f1, f2, f3, f4⟩ := fill3_facts T1 (gv_t G 5) (gv_t G 6) (gv_t G 1) N M K (defaultValue .boolean) N
  rw [hT1h] at f1 f2
  have hkd := S.1.2.2.2.2.1
  have V' := vs_t (vs_t (vs_t V))
  have ad0' : ad_k ad (hp_n h) T.heap.size (hp_n h) = T.heap.size := by have := ad_kg (ad := ad) (n := hp_n h) (a := T.heap.size) (j := 0); exact this
  have hnew : ∀ i, i < 1 + N * (M + 1) → va_at (gv_D G) clA (ce_ (ad_k ad (hp_n h) T.heap.size) (gv_t G) (mk3_ h N M K) (hp_n h + i)) (fill3 T1 (gv_t G 5) (gv_t G 6) (gv_t G 1) N M K (defaultValue .boolean) N).heap := fun i hi => by
    rcases Nat.eq_zero_or_pos i with z | z
    · subst z
      rw [Nat.add_zero, ce_arr (t := 5) (n := N) (by exact mk3_K0)]
      show _ = some (vp_cell _ _)
      unfold ar_c
      rw [if_neg (by decide), if_neg (by decide)]
      show (fill3 T1 (gv_t G 5) (gv_t G 6) (gv_t G 1) N M K (defaultValue .boolean) N).heap[ad_k ad (hp_n h) T.heap.size (hp_n h)]? = some (arrV (gv_t G 5) N (fun j => va_rf ((hp_R (mk3_ h N M K) (hp_n h) j).map (ad_k ad (hp_n h) T.heap.size))))
      rw [ad0', f2]
      refine congrArg some (cell_ext (outer3_facts _ _ _ _ _).1 (outer3_facts _ _ _ _ _).2.1 (outer3_facts _ _ _ _ _).2.2 (outer3_mh _ _ _ _ _).1 (outer3_mh _ _ _ _ _).2 (fun j hj => ?_))
      rw [outer3_slot _ _ _ _ _ j hj, if_pos hj, mk3_R0 hj]
      show some (Value.ref (T.heap.size + 1 + j * (M + 1))) = some (Value.ref (ad_k ad (hp_n h) T.heap.size (hp_n h + 1 + j * (M + 1))))
      rw [show hp_n h + 1 + j * (M + 1) = hp_n h + (1 + j * (M + 1)) by omega, ad_kg]
      rw [show T.heap.size + (1 + j * (M + 1)) = T.heap.size + 1 + j * (M + 1) by omega]
    · have hd := Nat.div_add_mod (i - 1) (M + 1)
      have hr := Nat.mod_lt (i - 1) (show 0 < M + 1 by omega)
      have ha : (i - 1) / (M + 1) < N := Nat.div_lt_of_lt_mul (by rw [Nat.mul_comm]; omega)
      generalize (i - 1) / (M + 1) = a at hd ha
      generalize (i - 1) % (M + 1) = r at hd hr
      rw [Nat.mul_comm] at hd
      obtain ⟨g1, g2⟩ := fill3_mid T1 (gv_t G 5) (gv_t G 6) (gv_t G 1) N M K (defaultValue .boolean) N a ha
      rw [hT1h] at g1 g2
      rcases Nat.eq_zero_or_pos r with y | y
      · rw [show hp_n h + i = hp_n h + 1 + a * (M + 1) by omega, ce_arr (t := 6) (n := M) (by exact mk3_K1 ha)]
        show _ = some (vp_cell _ _)
        unfold ar_c
        rw [if_neg (by decide), if_neg (by decide)]
        show (fill3 T1 (gv_t G 5) (gv_t G 6) (gv_t G 1) N M K (defaultValue .boolean) N).heap[ad_k ad (hp_n h) T.heap.size (hp_n h + 1 + a * (M + 1))]? = some (arrV (gv_t G 6) M (fun j => va_rf ((hp_R (mk3_ h N M K) (hp_n h + 1 + a * (M + 1)) j).map (ad_k ad (hp_n h) T.heap.size))))
        rw [show hp_n h + 1 + a * (M + 1) = hp_n h + (1 + a * (M + 1)) by omega, ad_kg, show T.heap.size + (1 + a * (M + 1)) = T.heap.size + 1 + a * (M + 1) by omega, g1]
        refine congrArg some (cell_ext (Jvm.Free.Multi.outerC_facts _ _ _ _).1 (Jvm.Free.Multi.outerC_facts _ _ _ _).2.1 (Jvm.Free.Multi.outerC_facts _ _ _ _).2.2 (outerC_mh _ _ _ _).1 (outerC_mh _ _ _ _).2 (fun j hj => ?_))
        rw [Jvm.Free.Multi.outerC_slot _ _ _ _ j hj, if_pos hj, show hp_n h + (1 + a * (M + 1)) = hp_n h + 1 + a * (M + 1) by omega, mk3_R1 ha hj]
        show some (Value.ref (T.heap.size + 1 + a * (M + 1) + 1 + j)) = some (Value.ref (ad_k ad (hp_n h) T.heap.size (hp_n h + 1 + a * (M + 1) + 1 + j)))
        rw [show hp_n h + 1 + a * (M + 1) + 1 + j = hp_n h + (1 + a * (M + 1) + 1 + j) by omega, ad_kg]
        rw [show T.heap.size + (1 + a * (M + 1) + 1 + j) = T.heap.size + 1 + a * (M + 1) + 1 + j by omega]
      · obtain ⟨j, rfl⟩ : ∃ j, r = j + 1 := ⟨r - 1, by omega⟩
        rw [show hp_n h + i = hp_n h + 1 + a * (M + 1) + 1 + j by omega, ce_arr (t := 1) (n := K) (by exact mk3_K2 ha (by omega))]
        show _ = some (vp_cell _ _)
        unfold ar_c
        rw [if_pos (by decide)]
        show (fill3 T1 (gv_t G 5) (gv_t G 6) (gv_t G 1) N M K (defaultValue .boolean) N).heap[ad_k ad (hp_n h) T.heap.size (hp_n h + 1 + a * (M + 1) + 1 + j)]? = some (arrV (gv_t G 1) K (fun k => .int (hp_I (mk3_ h N M K) (hp_n h + 1 + a * (M + 1) + 1 + j) k)))
        rw [show hp_n h + 1 + a * (M + 1) + 1 + j = hp_n h + (1 + a * (M + 1) + 1 + j) by omega, ad_kg, show T.heap.size + (1 + a * (M + 1) + 1 + j) = T.heap.size + 1 + a * (M + 1) + 1 + j by omega, g2 j (by omega)]
        refine congrArg some (cell_ext rfl rfl (by simp [Jvm.Free.Multi.innerC]) rfl rfl (fun k hk => ?_))
        rw [mk3_I (by omega)]
        simp [Jvm.Free.Multi.innerC, hk, defaultValue]
  have k9 := kk pg e R s m args below meth c Z ad0 n0 hC hE (ad_k ad (hp_n h) T.heap.size) (fill3 T1 (gv_t G 5) (gv_t G 6) (gv_t G 1) N M K (defaultValue .boolean) N).heap locs (cells + (1 + N * (M + 1))) (slots + (N + N * (M + M * K))) ls
    (st_many S hC.2.2.2.2.2.2.2.2.2.1 hC.2.2.2.2.2.2.2.2.2.2 mk3_n (fun q hq => mk3_sm hq) (mk3_kd hkd) (fun q hq => by rw [fill3_old _ _ _ _ _ _ _ _ (by rw [hT1h]; exact hq), hT1h]) (by rw [f1]; omega) hnew)
    (vs_c (by show hp_n h < hp_n h + (1 + N * (M + 1)); omega) (fun v hv => vi_up (by rw [mk3_n]; omega) (V' v hv)))
  have e3 : (Value.ref (hp_n h) :: st).map (cv_ (ad_k ad (hp_n h) T.heap.size)) = Value.ref T.heap.size :: st.map (cv_ ad) := by
    show Value.ref (ad_k ad (hp_n h) T.heap.size (hp_n h)) :: _ = _
    rw [ad0', cvs_same (n := hp_n h) (fun x hx => ad_kl hx) V']
  rw [e3] at k9
  obtain ⟨t, a1, b1⟩ := k9 _ rfl (by rw [show cells + (1 + N * (M + 1)) = cells + 1 + N * (M + 1) by omega, show slots + (N + N * (M + M * K)) = slots + N + N * (M + M * K) by omega]; exact X1)
  exact ⟨t, step t a1, b1⟩
end XM
