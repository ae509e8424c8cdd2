set_option maxRecDepth 100000
theorem c_X5_init {G : Gv} {h : AH} {q : Nat} (hK : hp_K h q = (5, 0)) (a b c e : Int32)  : Ctr G 2 yX5_init cX5_init 5 none [.ref q, .int a, .int b, .int c, .int e] h 0 0 (fun r h1 => r = none ∧ h1 = (up_I (up_I (up_I (up_I h q 0 a) q 1 b) q 2 c) q 3 e)) := by
  refine ctr_of (own := RX5) (nm := "<init>") (by decide) (Nat.le_of_ble_eq_true rfl) ?_
  refine v_aload_n dX5_init_0 rfl rfl ?_
  refine v_objI (ci := 0) (C := "") (T := TX4) (N := 0) q490 q171 q172 dX5_init_1 (by first | decide | omega) ?_
  refine v_aload_n dX5_init_4 rfl rfl ?_
  refine v_iload_n dX5_init_5 rfl rfl ?_
  refine v_putI fX5_7 (.inr ⟨rfl, rfl, rfl, rfl⟩) dX5_init_6 hK ?_
  refine v_aload_n dX5_init_9 rfl rfl ?_
  refine v_iload_n dX5_init_10 rfl rfl ?_
  refine v_putI fX5_13 (.inr ⟨rfl, rfl, rfl, rfl⟩) dX5_init_11 hK ?_
  refine v_aload_n dX5_init_14 rfl rfl ?_
  refine v_iload_n dX5_init_15 rfl rfl ?_
  refine v_putI fX5_16 (.inr ⟨rfl, rfl, rfl, rfl⟩) dX5_init_16 hK ?_
  refine v_aload_n dX5_init_19 rfl rfl ?_
  refine v_iload dX5_init_20 rfl ?_
  refine v_putI fX5_19 (.inr ⟨rfl, rfl, rfl, rfl⟩) dX5_init_22 hK ?_
  exact v_retv dX5_init_25 trivial ⟨rfl, rfl⟩

theorem c_X6_init {G : Gv} {h : AH} {q : Nat} (hK : hp_K h q = (6, 0)) (a b c e g : Int32)  : Ctr G 2 yX6_init cX6_init 6 none [.ref q, .int a, .int b, .int c, .int e, .int g] h 0 0 (fun r h1 => r = none ∧ h1 = (up_I (up_I (up_I (up_I (up_I h q 0 a) q 1 b) q 2 c) q 3 e) q 4 g)) := by
  refine ctr_of (own := RX6) (nm := "<init>") (by decide) (Nat.le_of_ble_eq_true rfl) ?_
  refine v_aload_n dX6_init_0 rfl rfl ?_
  refine v_objI (ci := 0) (C := "") (T := TX4) (N := 0) q660 q171 q172 dX6_init_1 (by first | decide | omega) ?_
  refine v_aload_n dX6_init_4 rfl rfl ?_
  refine v_iload_n dX6_init_5 rfl rfl ?_
  refine v_putI fX6_7 (.inr ⟨rfl, rfl, rfl, rfl⟩) dX6_init_6 hK ?_
  refine v_aload_n dX6_init_9 rfl rfl ?_
  refine v_iload_n dX6_init_10 rfl rfl ?_
  refine v_putI fX6_13 (.inr ⟨rfl, rfl, rfl, rfl⟩) dX6_init_11 hK ?_
  refine v_aload_n dX6_init_14 rfl rfl ?_
  refine v_iload_n dX6_init_15 rfl rfl ?_
  refine v_putI fX6_16 (.inr ⟨rfl, rfl, rfl, rfl⟩) dX6_init_16 hK ?_
  refine v_aload_n dX6_init_19 rfl rfl ?_
  refine v_iload dX6_init_20 rfl ?_
  refine v_putI fX6_19 (.inr ⟨rfl, rfl, rfl, rfl⟩) dX6_init_22 hK ?_
  refine v_aload_n dX6_init_25 rfl rfl ?_
  refine v_iload dX6_init_26 rfl ?_
  refine v_putI fX6_22 (.inr ⟨rfl, rfl, rfl, rfl⟩) dX6_init_28 hK ?_
  exact v_retv dX6_init_31 trivial ⟨rfl, rfl⟩

theorem c_X18_init_19 {G : Gv} {h : AH} {q : Nat} (hK : hp_K h q = (19, 0)) (a b c e : Int32)  : Ctr G 2 yX18_init cX18_init 6 none [.ref q, .ref 30, .int a, .int b, .int c, .int e] h 0 0 (fun r h1 => r = none ∧ h1 = (up_I (up_I (up_I (up_I (up_R h q 4 (some 30)) q 0 a) q 1 b) q 2 c) q 3 e)) := by
  refine ctr_of (own := RX18) (nm := "<init>") (by decide) (Nat.le_of_ble_eq_true rfl) ?_
  refine v_aload_n dX18_init_0 rfl rfl ?_
  refine v_aload_n dX18_init_1 rfl rfl ?_
  refine v_putR (ty := .object "RapTable") fX18_1_X19 (.inr ⟨rfl, rfl, rfl, rfl⟩) dX18_init_2 hK (by decide +kernel) rfl rfl ?_
  refine v_aload_n dX18_init_5 rfl rfl ?_
  refine v_objI (ci := 0) (C := "") (T := TX4) (N := 0) q1243 q171 q172 dX18_init_6 (by first | decide | omega) ?_
  refine v_aload_n dX18_init_9 rfl rfl ?_
  refine v_iload_n dX18_init_10 rfl rfl ?_
  refine v_putI fX18_13_X19 (.inr ⟨rfl, rfl, rfl, rfl⟩) dX18_init_11 hK ?_
  refine v_aload_n dX18_init_14 rfl rfl ?_
  refine v_iload_n dX18_init_15 rfl rfl ?_
  refine v_putI fX18_17_X19 (.inr ⟨rfl, rfl, rfl, rfl⟩) dX18_init_16 hK ?_
  refine v_aload_n dX18_init_19 rfl rfl ?_
  refine v_iload dX18_init_20 rfl ?_
  refine v_putI fX18_20_X19 (.inr ⟨rfl, rfl, rfl, rfl⟩) dX18_init_22 hK ?_
  refine v_aload_n dX18_init_25 rfl rfl ?_
  refine v_iload dX18_init_26 rfl ?_
  refine v_putI fX18_23_X19 (.inr ⟨rfl, rfl, rfl, rfl⟩) dX18_init_28 hK ?_
  exact v_retv dX18_init_31 trivial ⟨rfl, rfl⟩

theorem c_X18_init_20 {G : Gv} {h : AH} {q : Nat} (hK : hp_K h q = (20, 0)) (a b c e : Int32)  : Ctr G 2 yX18_init cX18_init 6 none [.ref q, .ref 30, .int a, .int b, .int c, .int e] h 0 0 (fun r h1 => r = none ∧ h1 = (up_I (up_I (up_I (up_I (up_R h q 4 (some 30)) q 0 a) q 1 b) q 2 c) q 3 e)) := by
  refine ctr_of (own := RX18) (nm := "<init>") (by decide) (Nat.le_of_ble_eq_true rfl) ?_
  refine v_aload_n dX18_init_0 rfl rfl ?_
  refine v_aload_n dX18_init_1 rfl rfl ?_
  refine v_putR (ty := .object "RapTable") fX18_1_X20 (.inr ⟨rfl, rfl, rfl, rfl⟩) dX18_init_2 hK (by decide +kernel) rfl rfl ?_
  refine v_aload_n dX18_init_5 rfl rfl ?_
  refine v_objI (ci := 0) (C := "") (T := TX4) (N := 0) q1243 q171 q172 dX18_init_6 (by first | decide | omega) ?_
  refine v_aload_n dX18_init_9 rfl rfl ?_
  refine v_iload_n dX18_init_10 rfl rfl ?_
  refine v_putI fX18_13_X20 (.inr ⟨rfl, rfl, rfl, rfl⟩) dX18_init_11 hK ?_
  refine v_aload_n dX18_init_14 rfl rfl ?_
  refine v_iload_n dX18_init_15 rfl rfl ?_
  refine v_putI fX18_17_X20 (.inr ⟨rfl, rfl, rfl, rfl⟩) dX18_init_16 hK ?_
  refine v_aload_n dX18_init_19 rfl rfl ?_
  refine v_iload dX18_init_20 rfl ?_
  refine v_putI fX18_20_X20 (.inr ⟨rfl, rfl, rfl, rfl⟩) dX18_init_22 hK ?_
  refine v_aload_n dX18_init_25 rfl rfl ?_
  refine v_iload dX18_init_26 rfl ?_
  refine v_putI fX18_23_X20 (.inr ⟨rfl, rfl, rfl, rfl⟩) dX18_init_28 hK ?_
  exact v_retv dX18_init_31 trivial ⟨rfl, rfl⟩

theorem c_X21_init_22 {G : Gv} {h : AH} {q : Nat} (hK : hp_K h q = (22, 0)) (a b c : Int32)  : Ctr G 2 yX21_init cX21_init 5 none [.ref q, .ref 30, .int a, .int b, .int c] h 0 0 (fun r h1 => r = none ∧ h1 = (up_I (up_I (up_I (up_R h q 3 (some 30)) q 0 a) q 1 b) q 2 c)) := by
  refine ctr_of (own := RX21) (nm := "<init>") (by decide) (Nat.le_of_ble_eq_true rfl) ?_
  refine v_aload_n dX21_init_0 rfl rfl ?_
  refine v_aload_n dX21_init_1 rfl rfl ?_
  refine v_putR (ty := .object "RapTable") fX21_3_X22 (.inr ⟨rfl, rfl, rfl, rfl⟩) dX21_init_2 hK (by decide +kernel) rfl rfl ?_
  refine v_aload_n dX21_init_5 rfl rfl ?_
  refine v_objI (ci := 0) (C := "") (T := TX4) (N := 0) q1458 q171 q172 dX21_init_6 (by first | decide | omega) ?_
  refine v_aload_n dX21_init_9 rfl rfl ?_
  refine v_iload_n dX21_init_10 rfl rfl ?_
  refine v_putI fX21_15_X22 (.inr ⟨rfl, rfl, rfl, rfl⟩) dX21_init_11 hK ?_
  refine v_aload_n dX21_init_14 rfl rfl ?_
  refine v_iload_n dX21_init_15 rfl rfl ?_
  refine v_putI fX21_19_X22 (.inr ⟨rfl, rfl, rfl, rfl⟩) dX21_init_16 hK ?_
  refine v_aload_n dX21_init_19 rfl rfl ?_
  refine v_iload dX21_init_20 rfl ?_
  refine v_putI fX21_22_X22 (.inr ⟨rfl, rfl, rfl, rfl⟩) dX21_init_22 hK ?_
  exact v_retv dX21_init_25 trivial ⟨rfl, rfl⟩

theorem c_X21_init_23 {G : Gv} {h : AH} {q : Nat} (hK : hp_K h q = (23, 0)) (a b c : Int32)  : Ctr G 2 yX21_init cX21_init 5 none [.ref q, .ref 30, .int a, .int b, .int c] h 0 0 (fun r h1 => r = none ∧ h1 = (up_I (up_I (up_I (up_R h q 3 (some 30)) q 0 a) q 1 b) q 2 c)) := by
  refine ctr_of (own := RX21) (nm := "<init>") (by decide) (Nat.le_of_ble_eq_true rfl) ?_
  refine v_aload_n dX21_init_0 rfl rfl ?_
  refine v_aload_n dX21_init_1 rfl rfl ?_
  refine v_putR (ty := .object "RapTable") fX21_3_X23 (.inr ⟨rfl, rfl, rfl, rfl⟩) dX21_init_2 hK (by decide +kernel) rfl rfl ?_
  refine v_aload_n dX21_init_5 rfl rfl ?_
  refine v_objI (ci := 0) (C := "") (T := TX4) (N := 0) q1458 q171 q172 dX21_init_6 (by first | decide | omega) ?_
  refine v_aload_n dX21_init_9 rfl rfl ?_
  refine v_iload_n dX21_init_10 rfl rfl ?_
  refine v_putI fX21_15_X23 (.inr ⟨rfl, rfl, rfl, rfl⟩) dX21_init_11 hK ?_
  refine v_aload_n dX21_init_14 rfl rfl ?_
  refine v_iload_n dX21_init_15 rfl rfl ?_
  refine v_putI fX21_19_X23 (.inr ⟨rfl, rfl, rfl, rfl⟩) dX21_init_16 hK ?_
  refine v_aload_n dX21_init_19 rfl rfl ?_
  refine v_iload dX21_init_20 rfl ?_
  refine v_putI fX21_22_X23 (.inr ⟨rfl, rfl, rfl, rfl⟩) dX21_init_22 hK ?_
  exact v_retv dX21_init_25 trivial ⟨rfl, rfl⟩

theorem c_X21_init_24 {G : Gv} {h : AH} {q : Nat} (hK : hp_K h q = (24, 0)) (a b c : Int32)  : Ctr G 2 yX21_init cX21_init 5 none [.ref q, .ref 30, .int a, .int b, .int c] h 0 0 (fun r h1 => r = none ∧ h1 = (up_I (up_I (up_I (up_R h q 3 (some 30)) q 0 a) q 1 b) q 2 c)) := by
  refine ctr_of (own := RX21) (nm := "<init>") (by decide) (Nat.le_of_ble_eq_true rfl) ?_
  refine v_aload_n dX21_init_0 rfl rfl ?_
  refine v_aload_n dX21_init_1 rfl rfl ?_
  refine v_putR (ty := .object "RapTable") fX21_3_X24 (.inr ⟨rfl, rfl, rfl, rfl⟩) dX21_init_2 hK (by decide +kernel) rfl rfl ?_
  refine v_aload_n dX21_init_5 rfl rfl ?_
  refine v_objI (ci := 0) (C := "") (T := TX4) (N := 0) q1458 q171 q172 dX21_init_6 (by first | decide | omega) ?_
  refine v_aload_n dX21_init_9 rfl rfl ?_
  refine v_iload_n dX21_init_10 rfl rfl ?_
  refine v_putI fX21_15_X24 (.inr ⟨rfl, rfl, rfl, rfl⟩) dX21_init_11 hK ?_
  refine v_aload_n dX21_init_14 rfl rfl ?_
  refine v_iload_n dX21_init_15 rfl rfl ?_
  refine v_putI fX21_19_X24 (.inr ⟨rfl, rfl, rfl, rfl⟩) dX21_init_16 hK ?_
  refine v_aload_n dX21_init_19 rfl rfl ?_
  refine v_iload dX21_init_20 rfl ?_
  refine v_putI fX21_22_X24 (.inr ⟨rfl, rfl, rfl, rfl⟩) dX21_init_22 hK ?_
  exact v_retv dX21_init_25 trivial ⟨rfl, rfl⟩

theorem c_X19_init {G : Gv} {h : AH} {q : Nat} (hK : hp_K h q = (19, 0)) (p t x a b dy : Int32)  : Ctr G 4 yX19_init cX19_init 8 none [.ref q, .ref 30, .int p, .int t, .int x, .int a, .int b, .int dy] h 0 0 (fun r h1 => r = none ∧ h1 = (up_I (up_I (up_I (up_I (up_I (up_I (up_R (up_R h q 7 (some 30)) q 4 (some 30)) q 0 p) q 1 a) q 2 b) q 3 dy) q 5 t) q 6 x)) := by
  refine ctr_of (own := RX19) (nm := "<init>") (by decide) (Nat.le_of_ble_eq_true rfl) ?_
  refine v_aload_n dX19_init_0 rfl rfl ?_
  refine v_aload_n dX19_init_1 rfl rfl ?_
  refine v_putR (ty := .object "RapTable") fX19_3 (.inr ⟨rfl, rfl, rfl, rfl⟩) dX19_init_2 hK (by decide +kernel) rfl rfl ?_
  refine v_aload_n dX19_init_5 rfl rfl ?_
  refine v_aload_n dX19_init_6 rfl rfl ?_
  refine v_iload_n dX19_init_7 rfl rfl ?_
  refine v_iload dX19_init_8 rfl ?_
  refine v_iload dX19_init_10 rfl ?_
  refine v_iload dX19_init_12 rfl ?_
  refine v_zI mtX18_init q1240 q1241 rfl dX19_init_14 (c_X18_init_19 (h := up_R h q 7 (some 30)) hK _ _ _ _) (by first | decide | omega) (fun r14 h14 q14 z14 => ?_)
  obtain ⟨rfl, rfl⟩ := q14
  refine v_aload_n dX19_init_17 rfl rfl ?_
  refine v_iload_n dX19_init_18 rfl rfl ?_
  refine v_putI fX19_15 (.inr ⟨rfl, rfl, rfl, rfl⟩) dX19_init_19 hK ?_
  refine v_aload_n dX19_init_22 rfl rfl ?_
  refine v_iload dX19_init_23 rfl ?_
  refine v_putI fX19_19 (.inr ⟨rfl, rfl, rfl, rfl⟩) dX19_init_25 hK ?_
  exact v_retv dX19_init_28 trivial ⟨rfl, rfl⟩

theorem c_X20_init {G : Gv} {h : AH} {q : Nat} (hK : hp_K h q = (20, 0)) (p t a b dy : Int32)  : Ctr G 4 yX20_init cX20_init 7 none [.ref q, .ref 30, .int p, .int t, .int a, .int b, .int dy] h 0 0 (fun r h1 => r = none ∧ h1 = (up_I (up_I (up_I (up_I (up_I (up_R (up_R h q 6 (some 30)) q 4 (some 30)) q 0 p) q 1 a) q 2 b) q 3 dy) q 5 t)) := by
  refine ctr_of (own := RX20) (nm := "<init>") (by decide) (Nat.le_of_ble_eq_true rfl) ?_
  refine v_aload_n dX20_init_0 rfl rfl ?_
  refine v_aload_n dX20_init_1 rfl rfl ?_
  refine v_putR (ty := .object "RapTable") fX20_1 (.inr ⟨rfl, rfl, rfl, rfl⟩) dX20_init_2 hK (by decide +kernel) rfl rfl ?_
  refine v_aload_n dX20_init_5 rfl rfl ?_
  refine v_aload_n dX20_init_6 rfl rfl ?_
  refine v_iload_n dX20_init_7 rfl rfl ?_
  refine v_iload dX20_init_8 rfl ?_
  refine v_iload dX20_init_10 rfl ?_
  refine v_iload dX20_init_12 rfl ?_
  refine v_zI mtX18_init q1297 q1241 rfl dX20_init_14 (c_X18_init_20 (h := up_R h q 6 (some 30)) hK _ _ _ _) (by first | decide | omega) (fun r14 h14 q14 z14 => ?_)
  obtain ⟨rfl, rfl⟩ := q14
  refine v_aload_n dX20_init_17 rfl rfl ?_
  refine v_iload_n dX20_init_18 rfl rfl ?_
  refine v_putI fX20_13 (.inr ⟨rfl, rfl, rfl, rfl⟩) dX20_init_19 hK ?_
  exact v_retv dX20_init_22 trivial ⟨rfl, rfl⟩

theorem c_X22_init {G : Gv} {h : AH} {q : Nat} (hK : hp_K h q = (22, 0)) (v a b c : Int32)  : Ctr G 4 yX22_init cX22_init 6 none [.ref q, .ref 30, .int v, .int a, .int b, .int c] h 0 0 (fun r h1 => r = none ∧ h1 = (up_I (up_I (up_I (up_I (up_R (up_R h q 5 (some 30)) q 3 (some 30)) q 0 a) q 1 b) q 2 c) q 4 v)) := by
  refine ctr_of (own := RX22) (nm := "<init>") (by decide) (Nat.le_of_ble_eq_true rfl) ?_
  refine v_aload_n dX22_init_0 rfl rfl ?_
  refine v_aload_n dX22_init_1 rfl rfl ?_
  refine v_putR (ty := .object "RapTable") fX22_1 (.inr ⟨rfl, rfl, rfl, rfl⟩) dX22_init_2 hK (by decide +kernel) rfl rfl ?_
  refine v_aload_n dX22_init_5 rfl rfl ?_
  refine v_aload_n dX22_init_6 rfl rfl ?_
  refine v_iload_n dX22_init_7 rfl rfl ?_
  refine v_iload dX22_init_8 rfl ?_
  refine v_iload dX22_init_10 rfl ?_
  refine v_zI mtX21_init q1455 q1456 rfl dX22_init_12 (c_X21_init_22 (h := up_R h q 5 (some 30)) hK _ _ _) (by first | decide | omega) (fun r12 h12 q12 z12 => ?_)
  obtain ⟨rfl, rfl⟩ := q12
  refine v_aload_n dX22_init_15 rfl rfl ?_
  refine v_iload_n dX22_init_16 rfl rfl ?_
  refine v_putI fX22_13 (.inr ⟨rfl, rfl, rfl, rfl⟩) dX22_init_17 hK ?_
  exact v_retv dX22_init_20 trivial ⟨rfl, rfl⟩

theorem c_X23_init {G : Gv} {h : AH} {q : Nat} (hK : hp_K h q = (23, 0)) (v a b c : Int32)  : Ctr G 4 yX23_init cX23_init 6 none [.ref q, .ref 30, .int v, .int a, .int b, .int c] h 0 0 (fun r h1 => r = none ∧ h1 = (up_I (up_I (up_I (up_I (up_R (up_R h q 5 (some 30)) q 3 (some 30)) q 0 a) q 1 b) q 2 c) q 4 v)) := by
  refine ctr_of (own := RX23) (nm := "<init>") (by decide) (Nat.le_of_ble_eq_true rfl) ?_
  refine v_aload_n dX23_init_0 rfl rfl ?_
  refine v_aload_n dX23_init_1 rfl rfl ?_
  refine v_putR (ty := .object "RapTable") fX23_1 (.inr ⟨rfl, rfl, rfl, rfl⟩) dX23_init_2 hK (by decide +kernel) rfl rfl ?_
  refine v_aload_n dX23_init_5 rfl rfl ?_
  refine v_aload_n dX23_init_6 rfl rfl ?_
  refine v_iload_n dX23_init_7 rfl rfl ?_
  refine v_iload dX23_init_8 rfl ?_
  refine v_iload dX23_init_10 rfl ?_
  refine v_zI mtX21_init q1484 q1456 rfl dX23_init_12 (c_X21_init_23 (h := up_R h q 5 (some 30)) hK _ _ _) (by first | decide | omega) (fun r12 h12 q12 z12 => ?_)
  obtain ⟨rfl, rfl⟩ := q12
  refine v_aload_n dX23_init_15 rfl rfl ?_
  refine v_iload_n dX23_init_16 rfl rfl ?_
  refine v_putI fX23_13 (.inr ⟨rfl, rfl, rfl, rfl⟩) dX23_init_17 hK ?_
  exact v_retv dX23_init_20 trivial ⟨rfl, rfl⟩

theorem c_X24_init {G : Gv} {h : AH} {q : Nat} (hK : hp_K h q = (24, 0)) (v u a b c : Int32)  : Ctr G 4 yX24_init cX24_init 7 none [.ref q, .ref 30, .int v, .int u, .int a, .int b, .int c] h 0 0 (fun r h1 => r = none ∧ h1 = (up_I (up_I (up_I (up_I (up_I (up_R (up_R h q 6 (some 30)) q 3 (some 30)) q 0 a) q 1 b) q 2 c) q 4 v) q 5 u)) := by
  refine ctr_of (own := RX24) (nm := "<init>") (by decide) (Nat.le_of_ble_eq_true rfl) ?_
  refine v_aload_n dX24_init_0 rfl rfl ?_
  refine v_aload_n dX24_init_1 rfl rfl ?_
  refine v_putR (ty := .object "RapTable") fX24_3 (.inr ⟨rfl, rfl, rfl, rfl⟩) dX24_init_2 hK (by decide +kernel) rfl rfl ?_
  refine v_aload_n dX24_init_5 rfl rfl ?_
  refine v_aload_n dX24_init_6 rfl rfl ?_
  refine v_iload dX24_init_7 rfl ?_
  refine v_iload dX24_init_9 rfl ?_
  refine v_iload dX24_init_11 rfl ?_
  refine v_zI mtX21_init q1501 q1456 rfl dX24_init_13 (c_X21_init_24 (h := up_R h q 6 (some 30)) hK _ _ _) (by first | decide | omega) (fun r13 h13 q13 z13 => ?_)
  obtain ⟨rfl, rfl⟩ := q13
  refine v_aload_n dX24_init_16 rfl rfl ?_
  refine v_iload_n dX24_init_17 rfl rfl ?_
  refine v_putI fX24_15 (.inr ⟨rfl, rfl, rfl, rfl⟩) dX24_init_18 hK ?_
  refine v_aload_n dX24_init_21 rfl rfl ?_
  refine v_iload_n dX24_init_22 rfl rfl ?_
  refine v_putI fX24_19 (.inr ⟨rfl, rfl, rfl, rfl⟩) dX24_init_23 hK ?_
  exact v_retv dX24_init_26 trivial ⟨rfl, rfl⟩

theorem c_X9_init {G : Gv} {h : AH} {q : Nat} : Ctr G 2 yX9_init cX9_init 1 none [.ref q] h 0 0 (fun r h1 => r = none ∧ h1 = h) := by
  refine ctr_of (own := RX9) (nm := "<init>") (by decide) (Nat.le_of_ble_eq_true rfl) ?_
  refine v_aload_n dX9_init_0 rfl rfl ?_
  refine v_objI (ci := 0) (C := "") (T := TX4) (N := 0) q1135 q171 q172 dX9_init_1 (by first | decide | omega) ?_
  exact v_retv dX9_init_4 trivial ⟨rfl, rfl⟩

theorem c_X10_init {G : Gv} {h : AH} {q : Nat} (hK : hp_K h q = (10, 0)) (a : Int32)  : Ctr G 4 yX10_init cX10_init 2 none [.ref q, .int a] h 0 0 (fun r h1 => r = none ∧ h1 = (up_I h q 0 a)) := by
  refine ctr_of (own := RX10) (nm := "<init>") (by decide) (Nat.le_of_ble_eq_true rfl) ?_
  refine v_aload_n dX10_init_0 rfl rfl ?_
  refine v_zIN mtX9_init (nw_m q1132 rfl) q1133 rfl dX10_init_1 c_X9_init (by first | decide | omega) (fun r1 h1 q1 z1 => ?_)
  obtain ⟨rfl, rfl⟩ := q1
  refine v_aload_n dX10_init_4 rfl rfl ?_
  refine v_iload_n dX10_init_5 rfl rfl ?_
  refine v_putI fX10_7 (.inr ⟨rfl, rfl, rfl, rfl⟩) dX10_init_6 hK ?_
  exact v_retv dX10_init_9 trivial ⟨rfl, rfl⟩

theorem c_X11_init {G : Gv} {h : AH} {q : Nat} (hK : hp_K h q = (11, 0)) (a : Int32)  : Ctr G 4 yX11_init cX11_init 2 none [.ref q, .int a] h 0 0 (fun r h1 => r = none ∧ h1 = (up_I h q 0 a)) := by
  refine ctr_of (own := RX11) (nm := "<init>") (by decide) (Nat.le_of_ble_eq_true rfl) ?_
  refine v_aload_n dX11_init_0 rfl rfl ?_
  refine v_zIN mtX9_init (nw_m q1145 rfl) q1133 rfl dX11_init_1 c_X9_init (by first | decide | omega) (fun r1 h1 q1 z1 => ?_)
  obtain ⟨rfl, rfl⟩ := q1
  refine v_aload_n dX11_init_4 rfl rfl ?_
  refine v_iload_n dX11_init_5 rfl rfl ?_
  refine v_putI fX11_7 (.inr ⟨rfl, rfl, rfl, rfl⟩) dX11_init_6 hK ?_
  exact v_retv dX11_init_9 trivial ⟨rfl, rfl⟩

theorem c_X12_init {G : Gv} {h : AH} {q : Nat} (hK : hp_K h q = (12, 0)) (a : Int32)  : Ctr G 4 yX12_init cX12_init 2 none [.ref q, .int a] h 0 0 (fun r h1 => r = none ∧ h1 = (up_I h q 0 a)) := by
  refine ctr_of (own := RX12) (nm := "<init>") (by decide) (Nat.le_of_ble_eq_true rfl) ?_
  refine v_aload_n dX12_init_0 rfl rfl ?_
  refine v_zIN mtX9_init (nw_m q1159 rfl) q1133 rfl dX12_init_1 c_X9_init (by first | decide | omega) (fun r1 h1 q1 z1 => ?_)
  obtain ⟨rfl, rfl⟩ := q1
  refine v_aload_n dX12_init_4 rfl rfl ?_
  refine v_iload_n dX12_init_5 rfl rfl ?_
  refine v_putI fX12_7 (.inr ⟨rfl, rfl, rfl, rfl⟩) dX12_init_6 hK ?_
  exact v_retv dX12_init_9 trivial ⟨rfl, rfl⟩

theorem c_X13_init {G : Gv} {h : AH} {q : Nat} (hK : hp_K h q = (13, 0)) (a : Int32)  : Ctr G 4 yX13_init cX13_init 2 none [.ref q, .int a] h 0 0 (fun r h1 => r = none ∧ h1 = (up_I h q 0 a)) := by
  refine ctr_of (own := RX13) (nm := "<init>") (by decide) (Nat.le_of_ble_eq_true rfl) ?_
  refine v_aload_n dX13_init_0 rfl rfl ?_
  refine v_zIN mtX9_init (nw_m q1169 rfl) q1133 rfl dX13_init_1 c_X9_init (by first | decide | omega) (fun r1 h1 q1 z1 => ?_)
  obtain ⟨rfl, rfl⟩ := q1
  refine v_aload_n dX13_init_4 rfl rfl ?_
  refine v_iload_n dX13_init_5 rfl rfl ?_
  refine v_putI fX13_7 (.inr ⟨rfl, rfl, rfl, rfl⟩) dX13_init_6 hK ?_
  exact v_retv dX13_init_9 trivial ⟨rfl, rfl⟩

theorem c_X14_init {G : Gv} {h : AH} {q : Nat} (hK : hp_K h q = (14, 0)) (a : Int32)  : Ctr G 4 yX14_init cX14_init 2 none [.ref q, .int a] h 0 0 (fun r h1 => r = none ∧ h1 = (up_I h q 0 a)) := by
  refine ctr_of (own := RX14) (nm := "<init>") (by decide) (Nat.le_of_ble_eq_true rfl) ?_
  refine v_aload_n dX14_init_0 rfl rfl ?_
  refine v_zIN mtX9_init (nw_m q1179 rfl) q1133 rfl dX14_init_1 c_X9_init (by first | decide | omega) (fun r1 h1 q1 z1 => ?_)
  obtain ⟨rfl, rfl⟩ := q1
  refine v_aload_n dX14_init_4 rfl rfl ?_
  refine v_iload_n dX14_init_5 rfl rfl ?_
  refine v_putI fX14_7 (.inr ⟨rfl, rfl, rfl, rfl⟩) dX14_init_6 hK ?_
  exact v_retv dX14_init_9 trivial ⟨rfl, rfl⟩

theorem c_X15_init {G : Gv} {h : AH} {q : Nat} (hK : hp_K h q = (15, 0))  : Ctr G 4 yX15_init cX15_init 1 none [.ref q] h 0 0 (fun r h1 => r = none ∧ h1 = h) := by
  refine ctr_of (own := RX15) (nm := "<init>") (by decide) (Nat.le_of_ble_eq_true rfl) ?_
  refine v_aload_n dX15_init_0 rfl rfl ?_
  refine v_zIN mtX9_init (nw_m q1189 rfl) q1133 rfl dX15_init_1 c_X9_init (by first | decide | omega) (fun r1 h1 q1 z1 => ?_)
  obtain ⟨rfl, rfl⟩ := q1
  exact v_retv dX15_init_4 trivial ⟨rfl, rfl⟩

theorem c_X17_init {G : Gv} {h : AH} {q : Nat} (hK : hp_K h q = (17, 0)) (a b : Int32)  : Ctr G 4 yX17_init cX17_init 3 none [.ref q, .int a, .int b] h 0 0 (fun r h1 => r = none ∧ h1 = (up_I (up_I h q 0 a) q 1 b)) := by
  refine ctr_of (own := RX17) (nm := "<init>") (by decide) (Nat.le_of_ble_eq_true rfl) ?_
  refine v_aload_n dX17_init_0 rfl rfl ?_
  refine v_zIN mtX9_init (nw_m q1207 rfl) q1133 rfl dX17_init_1 c_X9_init (by first | decide | omega) (fun r1 h1 q1 z1 => ?_)
  obtain ⟨rfl, rfl⟩ := q1
  refine v_aload_n dX17_init_4 rfl rfl ?_
  refine v_iload_n dX17_init_5 rfl rfl ?_
  refine v_putI fX17_7 (.inr ⟨rfl, rfl, rfl, rfl⟩) dX17_init_6 hK ?_
  refine v_aload_n dX17_init_9 rfl rfl ?_
  refine v_iload_n dX17_init_10 rfl rfl ?_
  refine v_putI fX17_13 (.inr ⟨rfl, rfl, rfl, rfl⟩) dX17_init_11 hK ?_
  exact v_retv dX17_init_14 trivial ⟨rfl, rfl⟩

theorem c_X12_init_16 {G : Gv} {h : AH} {q : Nat} (hK : hp_K h q = (16, 0)) (a : Int32)  : Ctr G 4 yX12_init cX12_init 2 none [.ref q, .int a] h 0 0 (fun r h1 => r = none ∧ h1 = (up_I h q 0 a)) := by
  refine ctr_of (own := RX12) (nm := "<init>") (by decide) (Nat.le_of_ble_eq_true rfl) ?_
  refine v_aload_n dX12_init_0 rfl rfl ?_
  refine v_zIN mtX9_init (nw_m q1159 rfl) q1133 rfl dX12_init_1 c_X9_init (by first | decide | omega) (fun r1 h1 q1 z1 => ?_)
  obtain ⟨rfl, rfl⟩ := q1
  refine v_aload_n dX12_init_4 rfl rfl ?_
  refine v_iload_n dX12_init_5 rfl rfl ?_
  refine v_putI fX12_7_X16 (.inr ⟨rfl, rfl, rfl, rfl⟩) dX12_init_6 hK ?_
  exact v_retv dX12_init_9 trivial ⟨rfl, rfl⟩

theorem c_X16_init {G : Gv} {h : AH} {q : Nat} (hK : hp_K h q = (16, 0)) (a b : Int32)  : Ctr G 6 yX16_init cX16_init 3 none [.ref q, .int a, .int b] h 0 0 (fun r h1 => r = none ∧ h1 = (up_I (up_I h q 0 b) q 1 a)) := by
  refine ctr_of (own := RX16) (nm := "<init>") (by decide) (Nat.le_of_ble_eq_true rfl) ?_
  refine v_aload_n dX16_init_0 rfl rfl ?_
  refine v_iload_n dX16_init_1 rfl rfl ?_
  refine v_zI mtX12_init q1196 q1157 rfl dX16_init_2 (c_X12_init_16 hK _) (by first | decide | omega) (fun r2 h2 q2 z2 => ?_)
  obtain ⟨rfl, rfl⟩ := q2
  refine v_aload_n dX16_init_5 rfl rfl ?_
  refine v_iload_n dX16_init_6 rfl rfl ?_
  refine v_putI fX16_7 (.inr ⟨rfl, rfl, rfl, rfl⟩) dX16_init_7 hK ?_
  exact v_retv dX16_init_10 trivial ⟨rfl, rfl⟩

