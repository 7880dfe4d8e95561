set_option maxRecDepth 100000
theorem df_X6 : ∀ j, j < 7 → defaultValue (tyX6 j) = vp_V [.int 0, .null, .int 0, .int 0, .int 0, .int 0, .null] j := by
  intro j hj
  match j, hj with
  | 0, _ => rfl
  | 1, _ => rfl
  | 2, _ => rfl
  | 3, _ => rfl
  | 4, _ => rfl
  | 5, _ => rfl
  | 6, _ => rfl
theorem df_X8 : ∀ j, j < 3 → defaultValue (tyX8 j) = vp_V [.int 0, .null, .null] j := by
  intro j hj
  match j, hj with
  | 0, _ => rfl
  | 1, _ => rfl
  | 2, _ => rfl
theorem df_X9 : ∀ j, j < 1 → defaultValue (tyX9 j) = vp_V [.int 0] j := by
  intro j hj
  match j, hj with
  | 0, _ => rfl
theorem df_X10 : ∀ j, j < 1 → defaultValue (tyX10 j) = vp_V [.int 0] j := by
  intro j hj
  match j, hj with
  | 0, _ => rfl
theorem df_X12 : ∀ j, j < 3 → defaultValue (tyX12 j) = vp_V [.null, .int 0, .null] j := by
  intro j hj
  match j, hj with
  | 0, _ => rfl
  | 1, _ => rfl
  | 2, _ => rfl
theorem df_X13 : ∀ j, j < 1 → defaultValue (tyX13 j) = vp_V [.null] j := by
  intro j hj
  match j, hj with
  | 0, _ => rfl
theorem df_X14 : ∀ j, j < 3 → defaultValue (tyX14 j) = vp_V [.null, .null, .int 0] j := by
  intro j hj
  match j, hj with
  | 0, _ => rfl
  | 1, _ => rfl
  | 2, _ => rfl
theorem cyX7_init : Callee yX7_init 0 := by unfold Callee; decide +kernel
set_option maxHeartbeats 8000000 in
theorem ceX7_init_X8 (l : Launch) (D : va_G) (dA : Nat → ClassId) (a : Nat) : CTE l yX7_init cX7_init 1 none D dA 1 20 0 0 [(a, .inr (6, [.int 0, .null, .null]))] [.ref a] (fun rv w' => rv = none ∧ w' = [(a, .inr (6, [.int 0, .null, .null]))]) := by
  refine ct_openE (by decide) (Nat.le_of_ble_eq_true rfl) ?_
  intro G X hXI _ hV _
  have XI := hXI rfl
  have hRet := hV rfl
  clear hV hXI
  refine (show TM G () (some ()) [(a, .inr (6, [.int 0, .null, .null]))] 0 0 0 [(0, .ref a)] [] from ?_) rfl
  refine tm_aload_n X 0 dX7_init_0 rfl rfl ?_
  refine tm_objInit X q512 (Nat.le_of_ble_eq_true rfl) (Nat.le_of_ble_eq_true rfl) dX7_init_1 ?_
  refine tm_same (w' := [(a, .inr (6, [.int 0, .null, .null]))]) (pc' := 4) (st' := []) rfl rfl rfl rfl rfl ?_
  exact tm_retE (hRet _ ⟨rfl, rfl⟩) dX7_init_4
set_option maxHeartbeats 8000000 in
theorem ceX7_init_X9 (l : Launch) (D : va_G) (dA : Nat → ClassId) (a : Nat) : CTE l yX7_init cX7_init 1 none D dA 1 20 0 0 [(a, .inr (7, [.int 0]))] [.ref a] (fun rv w' => rv = none ∧ w' = [(a, .inr (7, [.int 0]))]) := by
  refine ct_openE (by decide) (Nat.le_of_ble_eq_true rfl) ?_
  intro G X hXI _ hV _
  have XI := hXI rfl
  have hRet := hV rfl
  clear hV hXI
  refine (show TM G () (some ()) [(a, .inr (7, [.int 0]))] 0 0 0 [(0, .ref a)] [] from ?_) rfl
  refine tm_aload_n X 0 dX7_init_0 rfl rfl ?_
  refine tm_objInit X q512 (Nat.le_of_ble_eq_true rfl) (Nat.le_of_ble_eq_true rfl) dX7_init_1 ?_
  refine tm_same (w' := [(a, .inr (7, [.int 0]))]) (pc' := 4) (st' := []) rfl rfl rfl rfl rfl ?_
  exact tm_retE (hRet _ ⟨rfl, rfl⟩) dX7_init_4
set_option maxHeartbeats 8000000 in
theorem ceX7_init_X10 (l : Launch) (D : va_G) (dA : Nat → ClassId) (a : Nat) : CTE l yX7_init cX7_init 1 none D dA 1 20 0 0 [(a, .inr (8, [.int 0]))] [.ref a] (fun rv w' => rv = none ∧ w' = [(a, .inr (8, [.int 0]))]) := by
  refine ct_openE (by decide) (Nat.le_of_ble_eq_true rfl) ?_
  intro G X hXI _ hV _
  have XI := hXI rfl
  have hRet := hV rfl
  clear hV hXI
  refine (show TM G () (some ()) [(a, .inr (8, [.int 0]))] 0 0 0 [(0, .ref a)] [] from ?_) rfl
  refine tm_aload_n X 0 dX7_init_0 rfl rfl ?_
  refine tm_objInit X q512 (Nat.le_of_ble_eq_true rfl) (Nat.le_of_ble_eq_true rfl) dX7_init_1 ?_
  refine tm_same (w' := [(a, .inr (8, [.int 0]))]) (pc' := 4) (st' := []) rfl rfl rfl rfl rfl ?_
  exact tm_retE (hRet _ ⟨rfl, rfl⟩) dX7_init_4
theorem cyX11_init : Callee yX11_init 0 := by unfold Callee; decide +kernel
set_option maxHeartbeats 8000000 in
theorem ceX11_init_X12 (l : Launch) (D : va_G) (dA : Nat → ClassId) (a : Nat) : CTE l yX11_init cX11_init 1 none D dA 1 20 0 0 [(a, .inr (9, [.null, .int 0, .null]))] [.ref a] (fun rv w' => rv = none ∧ w' = [(a, .inr (9, [.null, .int 0, .null]))]) := by
  refine ct_openE (by decide) (Nat.le_of_ble_eq_true rfl) ?_
  intro G X hXI _ hV _
  have XI := hXI rfl
  have hRet := hV rfl
  clear hV hXI
  refine (show TM G () (some ()) [(a, .inr (9, [.null, .int 0, .null]))] 0 0 0 [(0, .ref a)] [] from ?_) rfl
  refine tm_aload_n X 0 dX11_init_0 rfl rfl ?_
  refine tm_objInit X q565 (Nat.le_of_ble_eq_true rfl) (Nat.le_of_ble_eq_true rfl) dX11_init_1 ?_
  refine tm_same (w' := [(a, .inr (9, [.null, .int 0, .null]))]) (pc' := 4) (st' := []) rfl rfl rfl rfl rfl ?_
  exact tm_retE (hRet _ ⟨rfl, rfl⟩) dX11_init_4
set_option maxHeartbeats 8000000 in
theorem ceX11_init_X13 (l : Launch) (D : va_G) (dA : Nat → ClassId) (a : Nat) : CTE l yX11_init cX11_init 1 none D dA 1 20 0 0 [(a, .inr (10, [.null]))] [.ref a] (fun rv w' => rv = none ∧ w' = [(a, .inr (10, [.null]))]) := by
  refine ct_openE (by decide) (Nat.le_of_ble_eq_true rfl) ?_
  intro G X hXI _ hV _
  have XI := hXI rfl
  have hRet := hV rfl
  clear hV hXI
  refine (show TM G () (some ()) [(a, .inr (10, [.null]))] 0 0 0 [(0, .ref a)] [] from ?_) rfl
  refine tm_aload_n X 0 dX11_init_0 rfl rfl ?_
  refine tm_objInit X q565 (Nat.le_of_ble_eq_true rfl) (Nat.le_of_ble_eq_true rfl) dX11_init_1 ?_
  refine tm_same (w' := [(a, .inr (10, [.null]))]) (pc' := 4) (st' := []) rfl rfl rfl rfl rfl ?_
  exact tm_retE (hRet _ ⟨rfl, rfl⟩) dX11_init_4
set_option maxHeartbeats 8000000 in
theorem ceX11_init_X14 (l : Launch) (D : va_G) (dA : Nat → ClassId) (a : Nat) : CTE l yX11_init cX11_init 1 none D dA 1 20 0 0 [(a, .inr (11, [.null, .null, .int 0]))] [.ref a] (fun rv w' => rv = none ∧ w' = [(a, .inr (11, [.null, .null, .int 0]))]) := by
  refine ct_openE (by decide) (Nat.le_of_ble_eq_true rfl) ?_
  intro G X hXI _ hV _
  have XI := hXI rfl
  have hRet := hV rfl
  clear hV hXI
  refine (show TM G () (some ()) [(a, .inr (11, [.null, .null, .int 0]))] 0 0 0 [(0, .ref a)] [] from ?_) rfl
  refine tm_aload_n X 0 dX11_init_0 rfl rfl ?_
  refine tm_objInit X q565 (Nat.le_of_ble_eq_true rfl) (Nat.le_of_ble_eq_true rfl) dX11_init_1 ?_
  refine tm_same (w' := [(a, .inr (11, [.null, .null, .int 0]))]) (pc' := 4) (st' := []) rfl rfl rfl rfl rfl ?_
  exact tm_retE (hRet _ ⟨rfl, rfl⟩) dX11_init_4
theorem cyX8_init : Callee yX8_init 2 := by unfold Callee; decide +kernel
set_option maxHeartbeats 8000000 in
theorem ceX8_init (l : Launch) (D : va_G) (dA : Nat → ClassId) (a : Nat) (n1 : Int32) (b1 : Nat) : CTE l yX8_init cX8_init 3 none D dA 2 40 0 0 [(a, .inr (6, [.int 0, .null, .null]))] [.ref a, .int n1, .ref b1] (fun rv w' => rv = none ∧ w' = [(a, .inr (6, [.int n1, .ref b1, .null]))]) := by
  refine ct_openE (by decide) (Nat.le_of_ble_eq_true rfl) ?_
  intro G X hXI _ hV _
  have XI := hXI rfl
  have hRet := hV rfl
  clear hV hXI
  refine (show TM G () (some ()) [(a, .inr (6, [.int 0, .null, .null]))] 0 0 0 [(0, .ref a), (1, .int n1), (2, .ref b1)] [] from ?_) rfl
  refine tm_aload_n X 0 dX8_init_0 rfl rfl ?_
  refine tm_callINE (ce := 0) (sl := 0) (As := []) (rest := []) (wr := []) X (ceX7_init_X8 l D dA a) q531 q510 q130 q511 rfl cyX7_init rfl ⟨Nat.le_of_ble_eq_true rfl, Nat.le_of_ble_eq_true rfl⟩ (Nat.le_of_ble_eq_true rfl) dX8_init_1 ⟨by omega, by omega⟩ rfl rfl ?_
  rintro _ _ ⟨rfl, rfl⟩
  refine tm_same (w' := [(a, .inr (6, [.int 0, .null, .null]))]) (pc' := 4) (st' := []) rfl rfl rfl rfl rfl ?_
  refine tm_aload_n X 0 dX8_init_4 rfl rfl ?_
  refine tm_iload_n X 1 dX8_init_5 rfl rfl ?_
  refine tm_putF (f := 0) (v := .int n1) (w' := [(a, .inr (6, [.int n1, .null, .null]))]) XI 0 rfl in_X8 rfl (Nat.le_of_ble_eq_true rfl) tyX8 tyX8_ok nmX8 rfl rfl rfl rfl rfl (Nat.le_of_ble_eq_true rfl) q532 rfl dX8_init_6 rfl ?_
  refine tm_aload_n X 0 dX8_init_9 rfl rfl ?_
  refine tm_aload_n X 2 dX8_init_10 rfl rfl ?_
  refine tm_putF (f := 1) (v := .ref b1) (w' := [(a, .inr (6, [.int n1, .ref b1, .null]))]) XI 0 rfl in_X8 rfl (Nat.le_of_ble_eq_true rfl) tyX8 tyX8_ok nmX8 rfl rfl rfl rfl rfl (Nat.le_of_ble_eq_true rfl) q533 rfl dX8_init_11 rfl ?_
  exact tm_retE (hRet _ ⟨rfl, rfl⟩) dX8_init_14
set_option maxHeartbeats 8000000 in
theorem ceX8_initN (l : Launch) (D : va_G) (dA : Nat → ClassId) (a : Nat) (n1 : Int32) : CTE l yX8_init cX8_init 3 none D dA 2 40 0 0 [(a, .inr (6, [.int 0, .null, .null]))] [.ref a, .int n1, .null] (fun rv w' => rv = none ∧ w' = [(a, .inr (6, [.int n1, .null, .null]))]) := by
  refine ct_openE (by decide) (Nat.le_of_ble_eq_true rfl) ?_
  intro G X hXI _ hV _
  have XI := hXI rfl
  have hRet := hV rfl
  clear hV hXI
  refine (show TM G () (some ()) [(a, .inr (6, [.int 0, .null, .null]))] 0 0 0 [(0, .ref a), (1, .int n1), (2, .null)] [] from ?_) rfl
  refine tm_aload_n X 0 dX8_init_0 rfl rfl ?_
  refine tm_callINE (ce := 0) (sl := 0) (As := []) (rest := []) (wr := []) X (ceX7_init_X8 l D dA a) q531 q510 q130 q511 rfl cyX7_init rfl ⟨Nat.le_of_ble_eq_true rfl, Nat.le_of_ble_eq_true rfl⟩ (Nat.le_of_ble_eq_true rfl) dX8_init_1 ⟨by omega, by omega⟩ rfl rfl ?_
  rintro _ _ ⟨rfl, rfl⟩
  refine tm_same (w' := [(a, .inr (6, [.int 0, .null, .null]))]) (pc' := 4) (st' := []) rfl rfl rfl rfl rfl ?_
  refine tm_aload_n X 0 dX8_init_4 rfl rfl ?_
  refine tm_iload_n X 1 dX8_init_5 rfl rfl ?_
  refine tm_putF (f := 0) (v := .int n1) (w' := [(a, .inr (6, [.int n1, .null, .null]))]) XI 0 rfl in_X8 rfl (Nat.le_of_ble_eq_true rfl) tyX8 tyX8_ok nmX8 rfl rfl rfl rfl rfl (Nat.le_of_ble_eq_true rfl) q532 rfl dX8_init_6 rfl ?_
  refine tm_aload_n X 0 dX8_init_9 rfl rfl ?_
  refine tm_aload_nq (x := none) X 2 dX8_init_10 rfl rfl ?_
  refine tm_putF (f := 1) (v := .null) (w' := [(a, .inr (6, [.int n1, .null, .null]))]) XI 0 rfl in_X8 rfl (Nat.le_of_ble_eq_true rfl) tyX8 tyX8_ok nmX8 rfl rfl rfl rfl rfl (Nat.le_of_ble_eq_true rfl) q533 rfl dX8_init_11 rfl ?_
  exact tm_retE (hRet _ ⟨rfl, rfl⟩) dX8_init_14
theorem cyX9_init : Callee yX9_init 1 := by unfold Callee; decide +kernel
set_option maxHeartbeats 8000000 in
theorem ceX9_init (l : Launch) (D : va_G) (dA : Nat → ClassId) (a : Nat) (n1 : Int32) : CTE l yX9_init cX9_init 2 none D dA 2 40 0 0 [(a, .inr (7, [.int 0]))] [.ref a, .int n1] (fun rv w' => rv = none ∧ w' = [(a, .inr (7, [.int n1]))]) := by
  refine ct_openE (by decide) (Nat.le_of_ble_eq_true rfl) ?_
  intro G X hXI _ hV _
  have XI := hXI rfl
  have hRet := hV rfl
  clear hV hXI
  refine (show TM G () (some ()) [(a, .inr (7, [.int 0]))] 0 0 0 [(0, .ref a), (1, .int n1)] [] from ?_) rfl
  refine tm_aload_n X 0 dX9_init_0 rfl rfl ?_
  refine tm_callINE (ce := 0) (sl := 0) (As := []) (rest := []) (wr := []) X (ceX7_init_X9 l D dA a) q509 q510 q130 q511 rfl cyX7_init rfl ⟨Nat.le_of_ble_eq_true rfl, Nat.le_of_ble_eq_true rfl⟩ (Nat.le_of_ble_eq_true rfl) dX9_init_1 ⟨by omega, by omega⟩ rfl rfl ?_
  rintro _ _ ⟨rfl, rfl⟩
  refine tm_same (w' := [(a, .inr (7, [.int 0]))]) (pc' := 4) (st' := []) rfl rfl rfl rfl rfl ?_
  refine tm_aload_n X 0 dX9_init_4 rfl rfl ?_
  refine tm_iload_n X 1 dX9_init_5 rfl rfl ?_
  refine tm_putF (f := 0) (v := .int n1) (w' := [(a, .inr (7, [.int n1]))]) XI 0 rfl in_X9 rfl (Nat.le_of_ble_eq_true rfl) tyX9 tyX9_ok nmX9 rfl rfl rfl rfl rfl (Nat.le_of_ble_eq_true rfl) q513 rfl dX9_init_6 rfl ?_
  exact tm_retE (hRet _ ⟨rfl, rfl⟩) dX9_init_9
theorem cyX10_init : Callee yX10_init 1 := by unfold Callee; decide +kernel
set_option maxHeartbeats 8000000 in
theorem ceX10_init (l : Launch) (D : va_G) (dA : Nat → ClassId) (a : Nat) (n1 : Int32) : CTE l yX10_init cX10_init 2 none D dA 2 40 0 0 [(a, .inr (8, [.int 0]))] [.ref a, .int n1] (fun rv w' => rv = none ∧ w' = [(a, .inr (8, [.int n1]))]) := by
  refine ct_openE (by decide) (Nat.le_of_ble_eq_true rfl) ?_
  intro G X hXI _ hV _
  have XI := hXI rfl
  have hRet := hV rfl
  clear hV hXI
  refine (show TM G () (some ()) [(a, .inr (8, [.int 0]))] 0 0 0 [(0, .ref a), (1, .int n1)] [] from ?_) rfl
  refine tm_aload_n X 0 dX10_init_0 rfl rfl ?_
  refine tm_callINE (ce := 0) (sl := 0) (As := []) (rest := []) (wr := []) X (ceX7_init_X10 l D dA a) q523 q510 q130 q511 rfl cyX7_init rfl ⟨Nat.le_of_ble_eq_true rfl, Nat.le_of_ble_eq_true rfl⟩ (Nat.le_of_ble_eq_true rfl) dX10_init_1 ⟨by omega, by omega⟩ rfl rfl ?_
  rintro _ _ ⟨rfl, rfl⟩
  refine tm_same (w' := [(a, .inr (8, [.int 0]))]) (pc' := 4) (st' := []) rfl rfl rfl rfl rfl ?_
  refine tm_aload_n X 0 dX10_init_4 rfl rfl ?_
  refine tm_iload_n X 1 dX10_init_5 rfl rfl ?_
  refine tm_putF (f := 0) (v := .int n1) (w' := [(a, .inr (8, [.int n1]))]) XI 0 rfl in_X10 rfl (Nat.le_of_ble_eq_true rfl) tyX10 tyX10_ok nmX10 rfl rfl rfl rfl rfl (Nat.le_of_ble_eq_true rfl) q524 rfl dX10_init_6 rfl ?_
  exact tm_retE (hRet _ ⟨rfl, rfl⟩) dX10_init_9
theorem cyX12_init : Callee yX12_init 2 := by unfold Callee; decide +kernel
set_option maxHeartbeats 8000000 in
theorem ceX12_init (l : Launch) (D : va_G) (dA : Nat → ClassId) (a : Nat) (b1 : Nat) (n1 : Int32) : CTE l yX12_init cX12_init 3 none D dA 2 40 0 0 [(a, .inr (9, [.null, .int 0, .null]))] [.ref a, .ref b1, .int n1] (fun rv w' => rv = none ∧ w' = [(a, .inr (9, [.ref b1, .int n1, .null]))]) := by
  refine ct_openE (by decide) (Nat.le_of_ble_eq_true rfl) ?_
  intro G X hXI _ hV _
  have XI := hXI rfl
  have hRet := hV rfl
  clear hV hXI
  refine (show TM G () (some ()) [(a, .inr (9, [.null, .int 0, .null]))] 0 0 0 [(0, .ref a), (1, .ref b1), (2, .int n1)] [] from ?_) rfl
  refine tm_aload_n X 0 dX12_init_0 rfl rfl ?_
  refine tm_callINE (ce := 0) (sl := 0) (As := []) (rest := []) (wr := []) X (ceX11_init_X12 l D dA a) q589 q563 q134 q564 rfl cyX11_init rfl ⟨Nat.le_of_ble_eq_true rfl, Nat.le_of_ble_eq_true rfl⟩ (Nat.le_of_ble_eq_true rfl) dX12_init_1 ⟨by omega, by omega⟩ rfl rfl ?_
  rintro _ _ ⟨rfl, rfl⟩
  refine tm_same (w' := [(a, .inr (9, [.null, .int 0, .null]))]) (pc' := 4) (st' := []) rfl rfl rfl rfl rfl ?_
  refine tm_aload_n X 0 dX12_init_4 rfl rfl ?_
  refine tm_aload_n X 1 dX12_init_5 rfl rfl ?_
  refine tm_putF (f := 0) (v := .ref b1) (w' := [(a, .inr (9, [.ref b1, .int 0, .null]))]) XI 0 rfl in_X12 rfl (Nat.le_of_ble_eq_true rfl) tyX12 tyX12_ok nmX12 rfl rfl rfl rfl rfl (Nat.le_of_ble_eq_true rfl) q590 rfl dX12_init_6 rfl ?_
  refine tm_aload_n X 0 dX12_init_9 rfl rfl ?_
  refine tm_iload_n X 2 dX12_init_10 rfl rfl ?_
  refine tm_putF (f := 1) (v := .int n1) (w' := [(a, .inr (9, [.ref b1, .int n1, .null]))]) XI 0 rfl in_X12 rfl (Nat.le_of_ble_eq_true rfl) tyX12 tyX12_ok nmX12 rfl rfl rfl rfl rfl (Nat.le_of_ble_eq_true rfl) q591 rfl dX12_init_11 rfl ?_
  exact tm_retE (hRet _ ⟨rfl, rfl⟩) dX12_init_14
set_option maxHeartbeats 8000000 in
theorem ceX12_initN (l : Launch) (D : va_G) (dA : Nat → ClassId) (a : Nat) (n1 : Int32) : CTE l yX12_init cX12_init 3 none D dA 2 40 0 0 [(a, .inr (9, [.null, .int 0, .null]))] [.ref a, .null, .int n1] (fun rv w' => rv = none ∧ w' = [(a, .inr (9, [.null, .int n1, .null]))]) := by
  refine ct_openE (by decide) (Nat.le_of_ble_eq_true rfl) ?_
  intro G X hXI _ hV _
  have XI := hXI rfl
  have hRet := hV rfl
  clear hV hXI
  refine (show TM G () (some ()) [(a, .inr (9, [.null, .int 0, .null]))] 0 0 0 [(0, .ref a), (1, .null), (2, .int n1)] [] from ?_) rfl
  refine tm_aload_n X 0 dX12_init_0 rfl rfl ?_
  refine tm_callINE (ce := 0) (sl := 0) (As := []) (rest := []) (wr := []) X (ceX11_init_X12 l D dA a) q589 q563 q134 q564 rfl cyX11_init rfl ⟨Nat.le_of_ble_eq_true rfl, Nat.le_of_ble_eq_true rfl⟩ (Nat.le_of_ble_eq_true rfl) dX12_init_1 ⟨by omega, by omega⟩ rfl rfl ?_
  rintro _ _ ⟨rfl, rfl⟩
  refine tm_same (w' := [(a, .inr (9, [.null, .int 0, .null]))]) (pc' := 4) (st' := []) rfl rfl rfl rfl rfl ?_
  refine tm_aload_n X 0 dX12_init_4 rfl rfl ?_
  refine tm_aload_nq (x := none) X 1 dX12_init_5 rfl rfl ?_
  refine tm_putF (f := 0) (v := .null) (w' := [(a, .inr (9, [.null, .int 0, .null]))]) XI 0 rfl in_X12 rfl (Nat.le_of_ble_eq_true rfl) tyX12 tyX12_ok nmX12 rfl rfl rfl rfl rfl (Nat.le_of_ble_eq_true rfl) q590 rfl dX12_init_6 rfl ?_
  refine tm_aload_n X 0 dX12_init_9 rfl rfl ?_
  refine tm_iload_n X 2 dX12_init_10 rfl rfl ?_
  refine tm_putF (f := 1) (v := .int n1) (w' := [(a, .inr (9, [.null, .int n1, .null]))]) XI 0 rfl in_X12 rfl (Nat.le_of_ble_eq_true rfl) tyX12 tyX12_ok nmX12 rfl rfl rfl rfl rfl (Nat.le_of_ble_eq_true rfl) q591 rfl dX12_init_11 rfl ?_
  exact tm_retE (hRet _ ⟨rfl, rfl⟩) dX12_init_14
theorem cyX13_init : Callee yX13_init 1 := by unfold Callee; decide +kernel
set_option maxHeartbeats 8000000 in
theorem ceX13_init (l : Launch) (D : va_G) (dA : Nat → ClassId) (a : Nat) (b1 : Nat) : CTE l yX13_init cX13_init 2 none D dA 2 40 0 0 [(a, .inr (10, [.null]))] [.ref a, .ref b1] (fun rv w' => rv = none ∧ w' = [(a, .inr (10, [.ref b1]))]) := by
  refine ct_openE (by decide) (Nat.le_of_ble_eq_true rfl) ?_
  intro G X hXI _ hV _
  have XI := hXI rfl
  have hRet := hV rfl
  clear hV hXI
  refine (show TM G () (some ()) [(a, .inr (10, [.null]))] 0 0 0 [(0, .ref a), (1, .ref b1)] [] from ?_) rfl
  refine tm_aload_n X 0 dX13_init_0 rfl rfl ?_
  refine tm_callINE (ce := 0) (sl := 0) (As := []) (rest := []) (wr := []) X (ceX11_init_X13 l D dA a) q562 q563 q134 q564 rfl cyX11_init rfl ⟨Nat.le_of_ble_eq_true rfl, Nat.le_of_ble_eq_true rfl⟩ (Nat.le_of_ble_eq_true rfl) dX13_init_1 ⟨by omega, by omega⟩ rfl rfl ?_
  rintro _ _ ⟨rfl, rfl⟩
  refine tm_same (w' := [(a, .inr (10, [.null]))]) (pc' := 4) (st' := []) rfl rfl rfl rfl rfl ?_
  refine tm_aload_n X 0 dX13_init_4 rfl rfl ?_
  refine tm_aload_n X 1 dX13_init_5 rfl rfl ?_
  refine tm_putF (f := 0) (v := .ref b1) (w' := [(a, .inr (10, [.ref b1]))]) XI 0 rfl in_X13 rfl (Nat.le_of_ble_eq_true rfl) tyX13 tyX13_ok nmX13 rfl rfl rfl rfl rfl (Nat.le_of_ble_eq_true rfl) q566 rfl dX13_init_6 rfl ?_
  exact tm_retE (hRet _ ⟨rfl, rfl⟩) dX13_init_9
set_option maxHeartbeats 8000000 in
theorem ceX13_initN (l : Launch) (D : va_G) (dA : Nat → ClassId) (a : Nat) : CTE l yX13_init cX13_init 2 none D dA 2 40 0 0 [(a, .inr (10, [.null]))] [.ref a, .null] (fun rv w' => rv = none ∧ w' = [(a, .inr (10, [.null]))]) := by
  refine ct_openE (by decide) (Nat.le_of_ble_eq_true rfl) ?_
  intro G X hXI _ hV _
  have XI := hXI rfl
  have hRet := hV rfl
  clear hV hXI
  refine (show TM G () (some ()) [(a, .inr (10, [.null]))] 0 0 0 [(0, .ref a), (1, .null)] [] from ?_) rfl
  refine tm_aload_n X 0 dX13_init_0 rfl rfl ?_
  refine tm_callINE (ce := 0) (sl := 0) (As := []) (rest := []) (wr := []) X (ceX11_init_X13 l D dA a) q562 q563 q134 q564 rfl cyX11_init rfl ⟨Nat.le_of_ble_eq_true rfl, Nat.le_of_ble_eq_true rfl⟩ (Nat.le_of_ble_eq_true rfl) dX13_init_1 ⟨by omega, by omega⟩ rfl rfl ?_
  rintro _ _ ⟨rfl, rfl⟩
  refine tm_same (w' := [(a, .inr (10, [.null]))]) (pc' := 4) (st' := []) rfl rfl rfl rfl rfl ?_
  refine tm_aload_n X 0 dX13_init_4 rfl rfl ?_
  refine tm_aload_nq (x := none) X 1 dX13_init_5 rfl rfl ?_
  refine tm_putF (f := 0) (v := .null) (w' := [(a, .inr (10, [.null]))]) XI 0 rfl in_X13 rfl (Nat.le_of_ble_eq_true rfl) tyX13 tyX13_ok nmX13 rfl rfl rfl rfl rfl (Nat.le_of_ble_eq_true rfl) q566 rfl dX13_init_6 rfl ?_
  exact tm_retE (hRet _ ⟨rfl, rfl⟩) dX13_init_9
theorem cyX14_init : Callee yX14_init 3 := by unfold Callee; decide +kernel
set_option maxHeartbeats 8000000 in
theorem ceX14_init (l : Launch) (D : va_G) (dA : Nat → ClassId) (a : Nat) (b1 : Nat) (n1 : Int32) (b2 : Nat) : CTE l yX14_init cX14_init 4 none D dA 2 40 0 0 [(a, .inr (11, [.null, .null, .int 0]))] [.ref a, .ref b1, .int n1, .ref b2] (fun rv w' => rv = none ∧ w' = [(a, .inr (11, [.ref b1, .ref b2, .int n1]))]) := by
  refine ct_openE (by decide) (Nat.le_of_ble_eq_true rfl) ?_
  intro G X hXI _ hV _
  have XI := hXI rfl
  have hRet := hV rfl
  clear hV hXI
  refine (show TM G () (some ()) [(a, .inr (11, [.null, .null, .int 0]))] 0 0 0 [(0, .ref a), (1, .ref b1), (2, .int n1), (3, .ref b2)] [] from ?_) rfl
  refine tm_aload_n X 0 dX14_init_0 rfl rfl ?_
  refine tm_callINE (ce := 0) (sl := 0) (As := []) (rest := []) (wr := []) X (ceX11_init_X14 l D dA a) q575 q563 q134 q564 rfl cyX11_init rfl ⟨Nat.le_of_ble_eq_true rfl, Nat.le_of_ble_eq_true rfl⟩ (Nat.le_of_ble_eq_true rfl) dX14_init_1 ⟨by omega, by omega⟩ rfl rfl ?_
  rintro _ _ ⟨rfl, rfl⟩
  refine tm_same (w' := [(a, .inr (11, [.null, .null, .int 0]))]) (pc' := 4) (st' := []) rfl rfl rfl rfl rfl ?_
  refine tm_aload_n X 0 dX14_init_4 rfl rfl ?_
  refine tm_aload_n X 1 dX14_init_5 rfl rfl ?_
  refine tm_putF (f := 0) (v := .ref b1) (w' := [(a, .inr (11, [.ref b1, .null, .int 0]))]) XI 0 rfl in_X14 rfl (Nat.le_of_ble_eq_true rfl) tyX14 tyX14_ok nmX14 rfl rfl rfl rfl rfl (Nat.le_of_ble_eq_true rfl) q576 rfl dX14_init_6 rfl ?_
  refine tm_aload_n X 0 dX14_init_9 rfl rfl ?_
  refine tm_iload_n X 2 dX14_init_10 rfl rfl ?_
  refine tm_putF (f := 2) (v := .int n1) (w' := [(a, .inr (11, [.ref b1, .null, .int n1]))]) XI 0 rfl in_X14 rfl (Nat.le_of_ble_eq_true rfl) tyX14 tyX14_ok nmX14 rfl rfl rfl rfl rfl (Nat.le_of_ble_eq_true rfl) q578 rfl dX14_init_11 rfl ?_
  refine tm_aload_n X 0 dX14_init_14 rfl rfl ?_
  refine tm_aload_n X 3 dX14_init_15 rfl rfl ?_
  refine tm_putF (f := 1) (v := .ref b2) (w' := [(a, .inr (11, [.ref b1, .ref b2, .int n1]))]) XI 0 rfl in_X14 rfl (Nat.le_of_ble_eq_true rfl) tyX14 tyX14_ok nmX14 rfl rfl rfl rfl rfl (Nat.le_of_ble_eq_true rfl) q577 rfl dX14_init_16 rfl ?_
  exact tm_retE (hRet _ ⟨rfl, rfl⟩) dX14_init_19
set_option maxHeartbeats 8000000 in
theorem ceX14_initNR (l : Launch) (D : va_G) (dA : Nat → ClassId) (a : Nat) (n1 : Int32) (b2 : Nat) : CTE l yX14_init cX14_init 4 none D dA 2 40 0 0 [(a, .inr (11, [.null, .null, .int 0]))] [.ref a, .null, .int n1, .ref b2] (fun rv w' => rv = none ∧ w' = [(a, .inr (11, [.null, .ref b2, .int n1]))]) := by
  refine ct_openE (by decide) (Nat.le_of_ble_eq_true rfl) ?_
  intro G X hXI _ hV _
  have XI := hXI rfl
  have hRet := hV rfl
  clear hV hXI
  refine (show TM G () (some ()) [(a, .inr (11, [.null, .null, .int 0]))] 0 0 0 [(0, .ref a), (1, .null), (2, .int n1), (3, .ref b2)] [] from ?_) rfl
  refine tm_aload_n X 0 dX14_init_0 rfl rfl ?_
  refine tm_callINE (ce := 0) (sl := 0) (As := []) (rest := []) (wr := []) X (ceX11_init_X14 l D dA a) q575 q563 q134 q564 rfl cyX11_init rfl ⟨Nat.le_of_ble_eq_true rfl, Nat.le_of_ble_eq_true rfl⟩ (Nat.le_of_ble_eq_true rfl) dX14_init_1 ⟨by omega, by omega⟩ rfl rfl ?_
  rintro _ _ ⟨rfl, rfl⟩
  refine tm_same (w' := [(a, .inr (11, [.null, .null, .int 0]))]) (pc' := 4) (st' := []) rfl rfl rfl rfl rfl ?_
  refine tm_aload_n X 0 dX14_init_4 rfl rfl ?_
  refine tm_aload_nq (x := none) X 1 dX14_init_5 rfl rfl ?_
  refine tm_putF (f := 0) (v := .null) (w' := [(a, .inr (11, [.null, .null, .int 0]))]) XI 0 rfl in_X14 rfl (Nat.le_of_ble_eq_true rfl) tyX14 tyX14_ok nmX14 rfl rfl rfl rfl rfl (Nat.le_of_ble_eq_true rfl) q576 rfl dX14_init_6 rfl ?_
  refine tm_aload_n X 0 dX14_init_9 rfl rfl ?_
  refine tm_iload_n X 2 dX14_init_10 rfl rfl ?_
  refine tm_putF (f := 2) (v := .int n1) (w' := [(a, .inr (11, [.null, .null, .int n1]))]) XI 0 rfl in_X14 rfl (Nat.le_of_ble_eq_true rfl) tyX14 tyX14_ok nmX14 rfl rfl rfl rfl rfl (Nat.le_of_ble_eq_true rfl) q578 rfl dX14_init_11 rfl ?_
  refine tm_aload_n X 0 dX14_init_14 rfl rfl ?_
  refine tm_aload_n X 3 dX14_init_15 rfl rfl ?_
  refine tm_putF (f := 1) (v := .ref b2) (w' := [(a, .inr (11, [.null, .ref b2, .int n1]))]) XI 0 rfl in_X14 rfl (Nat.le_of_ble_eq_true rfl) tyX14 tyX14_ok nmX14 rfl rfl rfl rfl rfl (Nat.le_of_ble_eq_true rfl) q577 rfl dX14_init_16 rfl ?_
  exact tm_retE (hRet _ ⟨rfl, rfl⟩) dX14_init_19
set_option maxHeartbeats 8000000 in
theorem ceX14_initRN (l : Launch) (D : va_G) (dA : Nat → ClassId) (a : Nat) (b1 : Nat) (n1 : Int32) : CTE l yX14_init cX14_init 4 none D dA 2 40 0 0 [(a, .inr (11, [.null, .null, .int 0]))] [.ref a, .ref b1, .int n1, .null] (fun rv w' => rv = none ∧ w' = [(a, .inr (11, [.ref b1, .null, .int n1]))]) := by
  refine ct_openE (by decide) (Nat.le_of_ble_eq_true rfl) ?_
  intro G X hXI _ hV _
  have XI := hXI rfl
  have hRet := hV rfl
  clear hV hXI
  refine (show TM G () (some ()) [(a, .inr (11, [.null, .null, .int 0]))] 0 0 0 [(0, .ref a), (1, .ref b1), (2, .int n1), (3, .null)] [] from ?_) rfl
  refine tm_aload_n X 0 dX14_init_0 rfl rfl ?_
  refine tm_callINE (ce := 0) (sl := 0) (As := []) (rest := []) (wr := []) X (ceX11_init_X14 l D dA a) q575 q563 q134 q564 rfl cyX11_init rfl ⟨Nat.le_of_ble_eq_true rfl, Nat.le_of_ble_eq_true rfl⟩ (Nat.le_of_ble_eq_true rfl) dX14_init_1 ⟨by omega, by omega⟩ rfl rfl ?_
  rintro _ _ ⟨rfl, rfl⟩
  refine tm_same (w' := [(a, .inr (11, [.null, .null, .int 0]))]) (pc' := 4) (st' := []) rfl rfl rfl rfl rfl ?_
  refine tm_aload_n X 0 dX14_init_4 rfl rfl ?_
  refine tm_aload_n X 1 dX14_init_5 rfl rfl ?_
  refine tm_putF (f := 0) (v := .ref b1) (w' := [(a, .inr (11, [.ref b1, .null, .int 0]))]) XI 0 rfl in_X14 rfl (Nat.le_of_ble_eq_true rfl) tyX14 tyX14_ok nmX14 rfl rfl rfl rfl rfl (Nat.le_of_ble_eq_true rfl) q576 rfl dX14_init_6 rfl ?_
  refine tm_aload_n X 0 dX14_init_9 rfl rfl ?_
  refine tm_iload_n X 2 dX14_init_10 rfl rfl ?_
  refine tm_putF (f := 2) (v := .int n1) (w' := [(a, .inr (11, [.ref b1, .null, .int n1]))]) XI 0 rfl in_X14 rfl (Nat.le_of_ble_eq_true rfl) tyX14 tyX14_ok nmX14 rfl rfl rfl rfl rfl (Nat.le_of_ble_eq_true rfl) q578 rfl dX14_init_11 rfl ?_
  refine tm_aload_n X 0 dX14_init_14 rfl rfl ?_
  refine tm_aload_nq (x := none) X 3 dX14_init_15 rfl rfl ?_
  refine tm_putF (f := 1) (v := .null) (w' := [(a, .inr (11, [.ref b1, .null, .int n1]))]) XI 0 rfl in_X14 rfl (Nat.le_of_ble_eq_true rfl) tyX14 tyX14_ok nmX14 rfl rfl rfl rfl rfl (Nat.le_of_ble_eq_true rfl) q577 rfl dX14_init_16 rfl ?_
  exact tm_retE (hRet _ ⟨rfl, rfl⟩) dX14_init_19
set_option maxHeartbeats 8000000 in
theorem ceX14_initNN (l : Launch) (D : va_G) (dA : Nat → ClassId) (a : Nat) (n1 : Int32) : CTE l yX14_init cX14_init 4 none D dA 2 40 0 0 [(a, .inr (11, [.null, .null, .int 0]))] [.ref a, .null, .int n1, .null] (fun rv w' => rv = none ∧ w' = [(a, .inr (11, [.null, .null, .int n1]))]) := by
  refine ct_openE (by decide) (Nat.le_of_ble_eq_true rfl) ?_
  intro G X hXI _ hV _
  have XI := hXI rfl
  have hRet := hV rfl
  clear hV hXI
  refine (show TM G () (some ()) [(a, .inr (11, [.null, .null, .int 0]))] 0 0 0 [(0, .ref a), (1, .null), (2, .int n1), (3, .null)] [] from ?_) rfl
  refine tm_aload_n X 0 dX14_init_0 rfl rfl ?_
  refine tm_callINE (ce := 0) (sl := 0) (As := []) (rest := []) (wr := []) X (ceX11_init_X14 l D dA a) q575 q563 q134 q564 rfl cyX11_init rfl ⟨Nat.le_of_ble_eq_true rfl, Nat.le_of_ble_eq_true rfl⟩ (Nat.le_of_ble_eq_true rfl) dX14_init_1 ⟨by omega, by omega⟩ rfl rfl ?_
  rintro _ _ ⟨rfl, rfl⟩
  refine tm_same (w' := [(a, .inr (11, [.null, .null, .int 0]))]) (pc' := 4) (st' := []) rfl rfl rfl rfl rfl ?_
  refine tm_aload_n X 0 dX14_init_4 rfl rfl ?_
  refine tm_aload_nq (x := none) X 1 dX14_init_5 rfl rfl ?_
  refine tm_putF (f := 0) (v := .null) (w' := [(a, .inr (11, [.null, .null, .int 0]))]) XI 0 rfl in_X14 rfl (Nat.le_of_ble_eq_true rfl) tyX14 tyX14_ok nmX14 rfl rfl rfl rfl rfl (Nat.le_of_ble_eq_true rfl) q576 rfl dX14_init_6 rfl ?_
  refine tm_aload_n X 0 dX14_init_9 rfl rfl ?_
  refine tm_iload_n X 2 dX14_init_10 rfl rfl ?_
  refine tm_putF (f := 2) (v := .int n1) (w' := [(a, .inr (11, [.null, .null, .int n1]))]) XI 0 rfl in_X14 rfl (Nat.le_of_ble_eq_true rfl) tyX14 tyX14_ok nmX14 rfl rfl rfl rfl rfl (Nat.le_of_ble_eq_true rfl) q578 rfl dX14_init_11 rfl ?_
  refine tm_aload_n X 0 dX14_init_14 rfl rfl ?_
  refine tm_aload_nq (x := none) X 3 dX14_init_15 rfl rfl ?_
  refine tm_putF (f := 1) (v := .null) (w' := [(a, .inr (11, [.null, .null, .int n1]))]) XI 0 rfl in_X14 rfl (Nat.le_of_ble_eq_true rfl) tyX14 tyX14_ok nmX14 rfl rfl rfl rfl rfl (Nat.le_of_ble_eq_true rfl) q577 rfl dX14_init_16 rfl ?_
  exact tm_retE (hRet _ ⟨rfl, rfl⟩) dX14_init_19
/-- the pure heap behind new Reader(n) -/
def hR0 (h : Hp) (n : Int32) : Hp := fun k => if k = 90 then upd (fun _ => 0) 0 n else if k = 91 then (fun _ => 0) else if k = 92 then (fun _ => 0) else h k
theorem cyX6_init : Callee yX6_init 2 := by unfold Callee; decide +kernel
set_option maxHeartbeats 8000000 in
theorem ceX6_init (l : Launch) (D : va_G) (dA : Nat → ClassId) (a : Nat) (ad : Nat → Nat) (h : Hp) (n1 : Int32) : CTE l yX6_init cX6_init 3 none D dA 2 40 4 52 [(a, .inr (5, [.int 0, .null, .int 0, .int 0, .int 0, .int 0, .null]))] [.ref a, .ref (ad 100), .int n1] (fun rv w' => rv = none ∧ ∃ ac : Nat → Nat, ac 90 = a ∧ w' = wR0 ad ac dA (fun _ => none, fun _ => none) (hR0 h n1)) := by
  refine ct_openE (by decide) (Nat.le_of_ble_eq_true rfl) ?_
  intro G X hXI _ hV _
  have XI := hXI rfl
  have hRet := hV rfl
  clear hV hXI
  refine (show TM G () (some ()) [(a, .inr (5, [.int 0, .null, .int 0, .int 0, .int 0, .int 0, .null]))] 0 0 0 [(0, .ref a), (1, .ref (ad 100)), (2, .int n1)] [] from ?_) rfl
  refine tm_aload_n X 0 dX6_init_0 rfl rfl ?_
  refine tm_aload_n X 1 dX6_init_1 rfl rfl ?_
  refine tm_putF (f := 6) (v := .ref (ad 100)) (w' := [(a, .inr (5, [.int 0, .null, .int 0, .int 0, .int 0, .int 0, .ref (ad 100)]))]) XI 0 rfl in_X6 rfl (Nat.le_of_ble_eq_true rfl) tyX6 tyX6_ok nmX6 rfl rfl rfl rfl rfl (Nat.le_of_ble_eq_true rfl) q351 rfl dX6_init_2 rfl ?_
  refine tm_aload_n X 0 dX6_init_5 rfl rfl ?_
  refine tm_objInit X q341 (Nat.le_of_ble_eq_true rfl) (Nat.le_of_ble_eq_true rfl) dX6_init_6 ?_
  refine tm_same (w' := [(a, .inr (5, [.int 0, .null, .int 0, .int 0, .int 0, .int 0, .ref (ad 100)]))]) (pc' := 9) (st' := []) rfl rfl rfl rfl rfl ?_
  refine tm_aload_n X 0 dX6_init_9 rfl rfl ?_
  refine tm_new (ci := 3) X tyX4 in_X4 tyX4_ok q342 q204 q121 rfl [.null, .null, .null, .int 0] (df_X4) ⟨by omega, by omega⟩ dX6_init_10 (fun q1 => ?_)
  refine tm_same (w' := [(a, .inr (5, [.int 0, .null, .int 0, .int 0, .int 0, .int 0, .ref (ad 100)])), (q1, .inr (3, [.null, .null, .null, .int 0]))]) (pc' := 13) (st' := [.ref q1, .ref a]) rfl rfl rfl rfl rfl ?_
  refine tm_dup X dX6_init_13 rfl ?_
  refine tm_callINE (ce := 1) (sl := 4) (As := []) (rest := [.ref q1, .ref a]) (wr := [(a, .inr (5, [.int 0, .null, .int 0, .int 0, .int 0, .int 0, .ref (ad 100)]))]) X (ceX4_init l D dA q1) q343 q206 q121 q207 rfl cyX4_init rfl ⟨Nat.le_of_ble_eq_true rfl, Nat.le_of_ble_eq_true rfl⟩ (Nat.le_of_ble_eq_true rfl) dX6_init_14 ⟨by omega, by omega⟩ rfl rfl ?_
  rintro _ _ ⟨rfl, q2, q3, q4, rfl⟩
  refine tm_same (w' := [(a, .inr (5, [.int 0, .null, .int 0, .int 0, .int 0, .int 0, .ref (ad 100)])), (q1, .inr (3, [.ref q2, .ref q3, .ref q4, .int 0])), (q2, .inl (dA 0, 16, .inl (fun _ => 0))), (q3, .inl (dA 4, 16, .inr (.inr (.inr (.inr (fun _ => none)))))), (q4, .inl (dA 5, 16, .inr (.inr (.inr (.inr (fun _ => none))))))]) (pc' := 17) (st' := [.ref q1, .ref a]) rfl rfl rfl rfl rfl ?_
  refine tm_putF (f := 1) (v := .ref q1) (w' := [(a, .inr (5, [.int 0, .ref q1, .int 0, .int 0, .int 0, .int 0, .ref (ad 100)])), (q1, .inr (3, [.ref q2, .ref q3, .ref q4, .int 0])), (q2, .inl (dA 0, 16, .inl (fun _ => 0))), (q3, .inl (dA 4, 16, .inr (.inr (.inr (.inr (fun _ => none)))))), (q4, .inl (dA 5, 16, .inr (.inr (.inr (.inr (fun _ => none))))))]) XI 0 rfl in_X6 rfl (Nat.le_of_ble_eq_true rfl) tyX6 tyX6_ok nmX6 rfl rfl rfl rfl rfl (Nat.le_of_ble_eq_true rfl) q345 rfl dX6_init_17 rfl ?_
  refine tm_aload_n X 0 dX6_init_20 rfl rfl ?_
  refine tm_iload_n X 2 dX6_init_21 rfl rfl ?_
  refine tm_putF (f := 0) (v := .int n1) (w' := [(a, .inr (5, [.int n1, .ref q1, .int 0, .int 0, .int 0, .int 0, .ref (ad 100)])), (q1, .inr (3, [.ref q2, .ref q3, .ref q4, .int 0])), (q2, .inl (dA 0, 16, .inl (fun _ => 0))), (q3, .inl (dA 4, 16, .inr (.inr (.inr (.inr (fun _ => none)))))), (q4, .inl (dA 5, 16, .inr (.inr (.inr (.inr (fun _ => none))))))]) XI 0 rfl in_X6 rfl (Nat.le_of_ble_eq_true rfl) tyX6 tyX6_ok nmX6 rfl rfl rfl rfl rfl (Nat.le_of_ble_eq_true rfl) q344 rfl dX6_init_22 rfl ?_
  refine tm_same (w' := wR0 ad (fun k => if k = 90 then a else if k = 91 then q1 else if k = 92 then q2 else if k = 93 then q3 else if k = 94 then q4 else 0) dA (fun _ => none, fun _ => none) (hR0 h n1)) rfl rfl rfl rfl rfl ?_
  exact tm_retE (hRet _ ⟨rfl, (fun k => if k = 90 then a else if k = 91 then q1 else if k = 92 then q2 else if k = 93 then q3 else if k = 94 then q4 else 0), rfl, rfl⟩) dX6_init_25
