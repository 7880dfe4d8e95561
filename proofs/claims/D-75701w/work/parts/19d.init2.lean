set_option maxRecDepth 100000
/-- the pure heap behind new Caster(n), new Guide(n) -/
def hC0 (h : Hp) (n : Int32) : Hp := fun k => if k = 80 then upd (fun _ => 0) 0 n else if k = 82 then (fun _ => 0) else if k = 83 then (fun _ => 0) else h k
def hG0 (h : Hp) (n : Int32) : Hp := fun k => if k = 85 then upd (fun _ => 0) 0 n else if k = 86 then (fun _ => 0) else h k
theorem df_X16 : ∀ j, j < 9 → defaultValue (tyX16 j) = vp_V [.int 0, .int 0, .int 0, .int 0, .null, .null, .int 0, .int 0, .null] j := by
  intro j hj
  match j, hj with
  | 0, _ => rfl
  | 1, _ => rfl
  | 2, _ => rfl
  | 3, _ => rfl
  | 4, _ => rfl
  | 5, _ => rfl
  | 6, _ => rfl
  | 7, _ => rfl
  | 8, _ => rfl
theorem df_X17 : ∀ j, j < 9 → defaultValue (tyX17 j) = vp_V [.int 0, .int 0, .int 0, .int 0, .null, .null, .int 0, .int 0, .null] j := by
  intro j hj
  match j, hj with
  | 0, _ => rfl
  | 1, _ => rfl
  | 2, _ => rfl
  | 3, _ => rfl
  | 4, _ => rfl
  | 5, _ => rfl
  | 6, _ => rfl
  | 7, _ => rfl
  | 8, _ => rfl
theorem cyX15_init : Callee yX15_init 2 := by unfold Callee; decide +kernel
set_option maxHeartbeats 8000000 in
theorem ceX15_init_C (l : Launch) (D : va_G) (dA : Nat → ClassId) (a : Nat) (b1 : Nat) (n1 : Int32) : CTE l yX15_init cX15_init 3 none D dA 1 20 0 0 [(a, .inr (12, [.int 0, .int 0, .int 0, .int 0, .null, .null, .int 0, .int 0, .ref b1]))] [.ref a, .ref b1, .int n1] (fun rv w' => rv = none ∧ w' = [(a, .inr (12, [.int n1, .int 0, .int 0, .int 0, .ref b1, .null, .int 0, .int 0, .ref b1]))]) := by
  refine ct_openE (by decide) (Nat.le_of_ble_eq_true rfl) ?_
  intro G X hXI _ hV _
  have XI := hXI rfl
  have hRet := hV rfl
  clear hV hXI
  refine (show TM G () (some ()) [(a, .inr (12, [.int 0, .int 0, .int 0, .int 0, .null, .null, .int 0, .int 0, .ref b1]))] 0 0 0 [(0, .ref a), (1, .ref b1), (2, .int n1)] [] from ?_) rfl
  refine tm_aload_n X 0 dX15_init_0 rfl rfl ?_
  refine tm_aload_n X 1 dX15_init_1 rfl rfl ?_
  refine tm_putFA (f := 4) (v := .ref b1) (w' := [(a, .inr (12, [.int 0, .int 0, .int 0, .int 0, .ref b1, .null, .int 0, .int 0, .ref b1]))]) XI 0 rfl in_X16 rfl (Nat.le_of_ble_eq_true rfl) (apart16 D dA) rfl rfl (ty := (tyX16 4)) (by decide) rfl rfl (Nat.le_of_ble_eq_true rfl) q624 rfl dX15_init_2 rfl ?_
  refine tm_aload_n X 0 dX15_init_5 rfl rfl ?_
  refine tm_objInit X q613 (Nat.le_of_ble_eq_true rfl) (Nat.le_of_ble_eq_true rfl) dX15_init_6 ?_
  refine tm_same (w' := [(a, .inr (12, [.int 0, .int 0, .int 0, .int 0, .ref b1, .null, .int 0, .int 0, .ref b1]))]) (pc' := 9) (st' := []) rfl rfl rfl rfl rfl ?_
  refine tm_aload_n X 0 dX15_init_9 rfl rfl ?_
  refine tm_iload_n X 2 dX15_init_10 rfl rfl ?_
  refine tm_putFA (f := 0) (v := .int n1) (w' := [(a, .inr (12, [.int n1, .int 0, .int 0, .int 0, .ref b1, .null, .int 0, .int 0, .ref b1]))]) XI 0 rfl in_X16 rfl (Nat.le_of_ble_eq_true rfl) (apart16 D dA) rfl rfl (ty := .int) rfl rfl rfl (Nat.le_of_ble_eq_true rfl) q620 rfl dX15_init_11 rfl ?_
  exact tm_retE (hRet _ ⟨rfl, rfl⟩) dX15_init_14
set_option maxHeartbeats 8000000 in
theorem ceX15_init_G (l : Launch) (D : va_G) (dA : Nat → ClassId) (a : Nat) (b1 : Nat) (n1 : Int32) : CTE l yX15_init cX15_init 3 none D dA 1 20 0 0 [(a, .inr (13, [.int 0, .int 0, .int 0, .int 0, .null, .null, .int 0, .int 0, .ref b1]))] [.ref a, .ref b1, .int n1] (fun rv w' => rv = none ∧ w' = [(a, .inr (13, [.int n1, .int 0, .int 0, .int 0, .ref b1, .null, .int 0, .int 0, .ref b1]))]) := by
  refine ct_openE (by decide) (Nat.le_of_ble_eq_true rfl) ?_
  intro G X hXI _ hV _
  have XI := hXI rfl
  have hRet := hV rfl
  clear hV hXI
  refine (show TM G () (some ()) [(a, .inr (13, [.int 0, .int 0, .int 0, .int 0, .null, .null, .int 0, .int 0, .ref b1]))] 0 0 0 [(0, .ref a), (1, .ref b1), (2, .int n1)] [] from ?_) rfl
  refine tm_aload_n X 0 dX15_init_0 rfl rfl ?_
  refine tm_aload_n X 1 dX15_init_1 rfl rfl ?_
  refine tm_putFA (f := 4) (v := .ref b1) (w' := [(a, .inr (13, [.int 0, .int 0, .int 0, .int 0, .ref b1, .null, .int 0, .int 0, .ref b1]))]) XI 0 rfl in_X17 rfl (Nat.le_of_ble_eq_true rfl) (apart17 D dA) rfl rfl (ty := (tyX17 4)) (by decide) rfl rfl (Nat.le_of_ble_eq_true rfl) q624 rfl dX15_init_2 rfl ?_
  refine tm_aload_n X 0 dX15_init_5 rfl rfl ?_
  refine tm_objInit X q613 (Nat.le_of_ble_eq_true rfl) (Nat.le_of_ble_eq_true rfl) dX15_init_6 ?_
  refine tm_same (w' := [(a, .inr (13, [.int 0, .int 0, .int 0, .int 0, .ref b1, .null, .int 0, .int 0, .ref b1]))]) (pc' := 9) (st' := []) rfl rfl rfl rfl rfl ?_
  refine tm_aload_n X 0 dX15_init_9 rfl rfl ?_
  refine tm_iload_n X 2 dX15_init_10 rfl rfl ?_
  refine tm_putFA (f := 0) (v := .int n1) (w' := [(a, .inr (13, [.int n1, .int 0, .int 0, .int 0, .ref b1, .null, .int 0, .int 0, .ref b1]))]) XI 0 rfl in_X17 rfl (Nat.le_of_ble_eq_true rfl) (apart17 D dA) rfl rfl (ty := .int) rfl rfl rfl (Nat.le_of_ble_eq_true rfl) q620 rfl dX15_init_11 rfl ?_
  exact tm_retE (hRet _ ⟨rfl, rfl⟩) dX15_init_14
theorem cyX16_init : Callee yX16_init 2 := by unfold Callee; decide +kernel
set_option maxHeartbeats 8000000 in
theorem ceX16_init (l : Launch) (D : va_G) (dA : Nat → ClassId) (a : Nat) (ad : Nat → Nat) (h : Hp) (n1 : Int32) : CTE l yX16_init cX16_init 3 none D dA 2 42 3 98 [(a, .inr (12, [.int 0, .int 0, .int 0, .int 0, .null, .null, .int 0, .int 0, .null]))] [.ref a, .ref (ad 100), .int n1] (fun rv w' => rv = none ∧ ∃ ac : Nat → Nat, ac 80 = a ∧ w' = wC0 ad ac dA (hC0 h n1)) := by
  refine ct_openE (by decide) (Nat.le_of_ble_eq_true rfl) ?_
  intro G X hXI _ hV _
  have XI := hXI rfl
  have hRet := hV rfl
  clear hV hXI
  refine (show TM G () (some ()) [(a, .inr (12, [.int 0, .int 0, .int 0, .int 0, .null, .null, .int 0, .int 0, .null]))] 0 0 0 [(0, .ref a), (1, .ref (ad 100)), (2, .int n1)] [] from ?_) rfl
  refine tm_aload_n X 0 dX16_init_0 rfl rfl ?_
  refine tm_aload_n X 1 dX16_init_1 rfl rfl ?_
  refine tm_putFA (f := 8) (v := .ref (ad 100)) (w' := [(a, .inr (12, [.int 0, .int 0, .int 0, .int 0, .null, .null, .int 0, .int 0, .ref (ad 100)]))]) XI 0 rfl in_X16 rfl (Nat.le_of_ble_eq_true rfl) (apart16 D dA) rfl rfl (ty := (tyX16 8)) (by decide) rfl rfl (Nat.le_of_ble_eq_true rfl) q619 rfl dX16_init_2 rfl ?_
  refine tm_aload_n X 0 dX16_init_5 rfl rfl ?_
  refine tm_aload_n X 1 dX16_init_6 rfl rfl ?_
  refine tm_iload_n X 2 dX16_init_7 rfl rfl ?_
  refine tm_callIE (ce := 0) (sl := 0) (As := [.ref (ad 100), .int n1]) (rest := []) (wr := []) X (ceX15_init_C l D dA a (ad 100) n1) q610 q611 q138 q612 rfl cyX15_init rfl ⟨Nat.le_of_ble_eq_true rfl, Nat.le_of_ble_eq_true rfl⟩ (Nat.le_of_ble_eq_true rfl) dX16_init_8 ⟨by omega, by omega⟩ rfl rfl ?_
  rintro _ _ ⟨rfl, rfl⟩
  refine tm_same (w' := [(a, .inr (12, [.int n1, .int 0, .int 0, .int 0, .ref (ad 100), .null, .int 0, .int 0, .ref (ad 100)]))]) (pc' := 11) (st' := []) rfl rfl rfl rfl rfl ?_
  refine tm_aload_n X 0 dX16_init_11 rfl rfl ?_
  refine tm_iconst X (2 : Int32) dX16_init_12 (by decide) ?_
  refine tm_bipush X (48 : Int32) dX16_init_13 (by decide) ?_
  refine tm_multi X q614 ⟨by omega, by omega⟩ dX16_init_15 (fun q1 => ?_)
  refine tm_same (w' := [(a, .inr (12, [.int n1, .int 0, .int 0, .int 0, .ref (ad 100), .null, .int 0, .int 0, .ref (ad 100)])), (q1, .inl (dA 3, 2, .inr (.inr (.inr (.inr (fun i => some (q1 + 1 + i))))))), (q1 + 1, .inl (dA 0, 48, .inl (fun _ => 0))), (q1 + 2, .inl (dA 0, 48, .inl (fun _ => 0)))]) (pc' := 19) (st' := [.ref q1, .ref a]) rfl rfl rfl rfl rfl ?_
  refine tm_putFA (f := 5) (v := .ref q1) (w' := [(a, .inr (12, [.int n1, .int 0, .int 0, .int 0, .ref (ad 100), .ref q1, .int 0, .int 0, .ref (ad 100)])), (q1, .inl (dA 3, 2, .inr (.inr (.inr (.inr (fun i => some (q1 + 1 + i))))))), (q1 + 1, .inl (dA 0, 48, .inl (fun _ => 0))), (q1 + 2, .inl (dA 0, 48, .inl (fun _ => 0)))]) XI 0 rfl in_X16 rfl (Nat.le_of_ble_eq_true rfl) (apart16 D dA) rfl rfl (ty := (tyX16 5)) (by decide) rfl rfl (Nat.le_of_ble_eq_true rfl) q615 rfl dX16_init_19 rfl ?_
  refine tm_aaCell (q := 1) (g := fun i => some ((fun k => if k = 80 then a else if k = 81 then q1 else if k = 82 then q1 + 1 else if k = 83 then q1 + 2 else 0) (82 + i))) (w' := [(a, .inr (12, [.int n1, .int 0, .int 0, .int 0, .ref (ad 100), .ref q1, .int 0, .int 0, .ref (ad 100)])), (q1, .inl (dA 3, 2, .inr (.inr (.inr (.inr (fun i => some ((fun k => if k = 80 then a else if k = 81 then q1 else if k = 82 then q1 + 1 else if k = 83 then q1 + 2 else 0) (82 + i)))))))), (q1 + 1, .inl (dA 0, 48, .inl (fun _ => 0))), (q1 + 2, .inl (dA 0, 48, .inl (fun _ => 0)))]) X rfl (fun j hj => by rcases (show j = 0 ∨ j = 1 by omega) with e | e <;> subst e <;> rfl) rfl ?_
  refine tm_same (w' := wC0 ad (fun k => if k = 80 then a else if k = 81 then q1 else if k = 82 then q1 + 1 else if k = 83 then q1 + 2 else 0) dA (hC0 h n1)) rfl rfl rfl rfl rfl ?_
  exact tm_retE (hRet _ ⟨rfl, (fun k => if k = 80 then a else if k = 81 then q1 else if k = 82 then q1 + 1 else if k = 83 then q1 + 2 else 0), rfl, rfl⟩) dX16_init_22
theorem cyX17_init : Callee yX17_init 2 := by unfold Callee; decide +kernel
set_option maxHeartbeats 8000000 in
theorem ceX17_init (l : Launch) (D : va_G) (dA : Nat → ClassId) (a : Nat) (ad : Nat → Nat) (h : Hp) (n1 : Int32) : CTE l yX17_init cX17_init 3 none D dA 2 42 1 48 [(a, .inr (13, [.int 0, .int 0, .int 0, .int 0, .null, .null, .int 0, .int 0, .null]))] [.ref a, .ref (ad 100), .int n1] (fun rv w' => rv = none ∧ ∃ ac : Nat → Nat, ac 85 = a ∧ w' = wG0 ad ac dA (hG0 h n1)) := by
  refine ct_openE (by decide) (Nat.le_of_ble_eq_true rfl) ?_
  intro G X hXI _ hV _
  have XI := hXI rfl
  have hRet := hV rfl
  clear hV hXI
  refine (show TM G () (some ()) [(a, .inr (13, [.int 0, .int 0, .int 0, .int 0, .null, .null, .int 0, .int 0, .null]))] 0 0 0 [(0, .ref a), (1, .ref (ad 100)), (2, .int n1)] [] from ?_) rfl
  refine tm_aload_n X 0 dX17_init_0 rfl rfl ?_
  refine tm_aload_n X 1 dX17_init_1 rfl rfl ?_
  refine tm_putFA (f := 8) (v := .ref (ad 100)) (w' := [(a, .inr (13, [.int 0, .int 0, .int 0, .int 0, .null, .null, .int 0, .int 0, .ref (ad 100)]))]) XI 0 rfl in_X17 rfl (Nat.le_of_ble_eq_true rfl) (apart17 D dA) rfl rfl (ty := (tyX17 8)) (by decide) rfl rfl (Nat.le_of_ble_eq_true rfl) q738 rfl dX17_init_2 rfl ?_
  refine tm_aload_n X 0 dX17_init_5 rfl rfl ?_
  refine tm_aload_n X 1 dX17_init_6 rfl rfl ?_
  refine tm_iload_n X 2 dX17_init_7 rfl rfl ?_
  refine tm_callIE (ce := 0) (sl := 0) (As := [.ref (ad 100), .int n1]) (rest := []) (wr := []) X (ceX15_init_G l D dA a (ad 100) n1) q733 q611 q138 q612 rfl cyX15_init rfl ⟨Nat.le_of_ble_eq_true rfl, Nat.le_of_ble_eq_true rfl⟩ (Nat.le_of_ble_eq_true rfl) dX17_init_8 ⟨by omega, by omega⟩ rfl rfl ?_
  rintro _ _ ⟨rfl, rfl⟩
  refine tm_same (w' := [(a, .inr (13, [.int n1, .int 0, .int 0, .int 0, .ref (ad 100), .null, .int 0, .int 0, .ref (ad 100)]))]) (pc' := 11) (st' := []) rfl rfl rfl rfl rfl ?_
  refine tm_aload_n X 0 dX17_init_11 rfl rfl ?_
  refine tm_bipush X (48 : Int32) dX17_init_12 (by decide) ?_
  refine tm_newarray_int (N := 48) X (by decide) (by decide) (Nat.le_of_ble_eq_true rfl) ⟨by omega, by omega⟩ dX17_init_14 (fun q1 => ?_)
  refine tm_same (w' := [(a, .inr (13, [.int n1, .int 0, .int 0, .int 0, .ref (ad 100), .null, .int 0, .int 0, .ref (ad 100)])), (q1, .inl (dA 0, 48, .inl (fun _ => 0)))]) (pc' := 16) (st' := [.ref q1, .ref a]) rfl rfl rfl rfl rfl ?_
  refine tm_putFA (f := 5) (v := .ref q1) (w' := [(a, .inr (13, [.int n1, .int 0, .int 0, .int 0, .ref (ad 100), .ref q1, .int 0, .int 0, .ref (ad 100)])), (q1, .inl (dA 0, 48, .inl (fun _ => 0)))]) XI 0 rfl in_X17 rfl (Nat.le_of_ble_eq_true rfl) (apart17 D dA) rfl rfl (ty := (tyX17 5)) (by decide) rfl rfl (Nat.le_of_ble_eq_true rfl) q734 rfl dX17_init_16 rfl ?_
  refine tm_same (w' := wG0 ad (fun k => if k = 85 then a else if k = 86 then q1 else 0) dA (hG0 h n1)) rfl rfl rfl rfl rfl ?_
  exact tm_retE (hRet _ ⟨rfl, (fun k => if k = 85 then a else if k = 86 then q1 else 0), rfl, rfl⟩) dX17_init_19
