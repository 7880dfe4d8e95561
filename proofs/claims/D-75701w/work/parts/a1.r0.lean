set_option maxRecDepth 100000
def mX6_here (h : Hp)  : Option (Int32) :=
nm (fun (s1 : Int32) =>
some s1) (fun k31 =>
if (h 90 0) ≤ (h 90 2) then (
k31 (0 : Int32)) else (
nm ((h 90 2)) (fun v2 =>
ck v2 260 (
k31 ((h 8 v2.toNatClampNeg) &&& (255 : Int32))))))
theorem cyX6_here : Callee yX6_here 0 := by unfold Callee; decide +kernel
set_option maxHeartbeats 4000000 in
theorem ctX6_here (l : Launch) (D : va_G) (ad ac : Nat → Nat) (dA : Nat → ClassId) (tt : (Nat → Option Nat) × (Nat → Option Nat) × va_W) (sc : (Nat → Option Nat) × (Nat → Option Nat)) (h : Hp)  (r : Int32) (hm : mX6_here h = some r) : CT l yX6_here cX6_here 1 (some .int) D dA 0 0 0 0 (wXR ad ac dA tt sc h) [.ref (ac 90)] (some (.int r)) (wXR ad ac dA tt sc h) := by
  refine ct_open (by decide) (Nat.le_of_ble_eq_true rfl) ?_
  intro G X hI hZ hV hR
  have hRet := hI rfl r rfl
  refine (show TM G r (mX6_here h) (wXR ad ac dA tt sc h) 0 0 0 [(0, .ref (ac 90))] [] from ?_) hm
  clear hm hI hZ hV hR
  unfold mX6_here
  refine tm_aload_n X 0 dX6_here_0 rfl rfl ?_
  refine tm_getI X (fiXR_90_2 ad ac dA tt sc) in_X6 rfl (Nat.le_of_ble_eq_true rfl) q347 rfl dX6_here_1 ?_
  refine tm_aload_n X 0 dX6_here_4 rfl rfl ?_
  refine tm_getI X (fiXR_90_0 ad ac dA tt sc) in_X6 rfl (Nat.le_of_ble_eq_true rfl) q344 rfl dX6_here_5 ?_
  refine tm_let (fun k => ∀ (s1 : Int32), TM G r (k s1) (wXR ad ac dA tt sc h) 0 0 31 [] [.int s1]) ?_ (fun k31 hk31 => ?_)
  · intro s1
    exact tm_retI hRet dX6_here_31
  · skip
    refine tm_ic_ge X 30 dX6_here_8 rfl ?_ ?_
    · skip
      refine tm_iconst X (0 : Int32) dX6_here_30 (by decide) ?_
      refine tm_lv X [] rfl ?_
      exact hk31 (0 : Int32)
    · skip
      refine tm_aload_n X 0 dX6_here_11 rfl rfl ?_
      refine tm_getR X (frXR_90_6 ad ac dA tt sc h) in_X6 rfl (Nat.le_of_ble_eq_true rfl) q351 rfl dX6_here_12 ?_
      refine tm_getRN X (frXR_100_8 ad ac dA tt sc h) in_X0 rfl (Nat.le_of_ble_eq_true rfl) q245 rfl dX6_here_15 ?_
      refine tm_aload_n X 0 dX6_here_18 rfl rfl ?_
      refine tm_getI X (fiXR_90_2 ad ac dA tt sc) in_X6 rfl (Nat.le_of_ble_eq_true rfl) q347 rfl dX6_here_19 ?_
      refine tm_nmI (fun v2 => ?_)
      refine tm_baloadB X (arXR_8 ad ac dA tt sc) dX6_here_22 ?_
      refine tm_sipush X (255 : Int32) dX6_here_23 (by decide) ?_
      refine tm_iand X dX6_here_26 ?_
      refine tm_goto X 31 dX6_here_27 rfl ?_
      refine tm_lv X [] rfl ?_
      exact hk31 ((h 8 v2.toNatClampNeg) &&& (255 : Int32))
def mX6_isGood (h : Hp)  : Option (Int32) :=
nm (fun (s1 : Int32) =>
bz s1 (some s1)) (fun k12 =>
if (h 90 4) = 0 then (
k12 (1 : Int32)) else (
k12 (0 : Int32)))
theorem cyX6_isGood : Callee yX6_isGood 0 := by unfold Callee; decide +kernel
set_option maxHeartbeats 4000000 in
theorem ctX6_isGood (l : Launch) (D : va_G) (ad ac : Nat → Nat) (dA : Nat → ClassId) (tt : (Nat → Option Nat) × (Nat → Option Nat) × va_W) (sc : (Nat → Option Nat) × (Nat → Option Nat)) (h : Hp)  (r : Int32) (hm : mX6_isGood h = some r) : CT l yX6_isGood cX6_isGood 1 (some .boolean) D dA 0 0 0 0 (wXR ad ac dA tt sc h) [.ref (ac 90)] (some (.int r)) (wXR ad ac dA tt sc h) := by
  refine ct_open (by decide) (Nat.le_of_ble_eq_true rfl) ?_
  intro G X hI hZ hV hR
  have hRet := fun hv => hZ rfl r hv rfl
  refine (show TM G r (mX6_isGood h) (wXR ad ac dA tt sc h) 0 0 0 [(0, .ref (ac 90))] [] from ?_) hm
  clear hm hI hZ hV hR
  unfold mX6_isGood
  refine tm_aload_n X 0 dX6_isGood_0 rfl rfl ?_
  refine tm_getI X (fiXR_90_4 ad ac dA tt sc) in_X6 rfl (Nat.le_of_ble_eq_true rfl) q349 rfl dX6_isGood_1 ?_
  refine tm_let (fun k => ∀ (s1 : Int32), TM G r (k s1) (wXR ad ac dA tt sc h) 0 0 12 [] [.int s1]) ?_ (fun k12 hk12 => ?_)
  · intro s1
    exact tm_retZ hRet dX6_isGood_12
  · skip
    refine tm_if_ne X 11 dX6_isGood_4 rfl ?_ ?_
    · skip
      refine tm_iconst X (0 : Int32) dX6_isGood_11 (by decide) ?_
      refine tm_lv X [] rfl ?_
      exact hk12 (0 : Int32)
    · skip
      refine tm_iconst X (1 : Int32) dX6_isGood_7 (by decide) ?_
      refine tm_goto X 12 dX6_isGood_8 rfl ?_
      refine tm_lv X [] rfl ?_
      exact hk12 (1 : Int32)
def mX6_bad (h : Hp) (x1 : Int32) (x2 : Int32) : Option (Hp) :=
if (h 90 4) ≤ 0 then (
nm (u2 h 90 4 x1) (fun h1 =>
nm (u2 h1 90 5 x2) (fun h2 =>
some h2))) else (
some h)
theorem cyX6_bad : Callee yX6_bad 2 := by unfold Callee; decide +kernel
set_option maxHeartbeats 4000000 in
theorem ctX6_bad (l : Launch) (D : va_G) (ad ac : Nat → Nat) (dA : Nat → ClassId) (tt : (Nat → Option Nat) × (Nat → Option Nat) × va_W) (sc : (Nat → Option Nat) × (Nat → Option Nat)) (h : Hp) (x1 : Int32) (x2 : Int32) (h' : Hp) (hm : mX6_bad h x1 x2 = some h') : CT l yX6_bad cX6_bad 3 none D dA 0 0 0 0 (wXR ad ac dA tt sc h) [.ref (ac 90), .int x1, .int x2] none (wXR ad ac dA tt sc h') := by
  refine ct_open (by decide) (Nat.le_of_ble_eq_true rfl) ?_
  intro G X hI hZ hV hR
  have hRet := hV rfl rfl
  refine (show TM G h' (mX6_bad h x1 x2) (wXR ad ac dA tt sc h) 0 0 0 [(0, .ref (ac 90)), (1, .int x1), (2, .int x2)] [] from ?_) hm
  clear hm hI hZ hV hR
  unfold mX6_bad
  refine tm_aload_n X 0 dX6_bad_0 rfl rfl ?_
  refine tm_getI X (fiXR_90_4 ad ac dA tt sc) in_X6 rfl (Nat.le_of_ble_eq_true rfl) q349 rfl dX6_bad_1 ?_
  refine tm_if_le X 8 dX6_bad_4 rfl ?_ ?_
  · skip
    refine tm_aload_n X 0 dX6_bad_8 rfl rfl ?_
    refine tm_iload_n X 1 dX6_bad_9 rfl rfl ?_
    refine tm_putI X (fiXR_90_4 ad ac dA tt sc) in_X6 rfl (Nat.le_of_ble_eq_true rfl) tyX6 tyX6_ok nmX6 rfl rfl q349 rfl dX6_bad_10 (fun h1 => ?_)
    refine tm_aload_n X 0 dX6_bad_13 rfl rfl ?_
    refine tm_iload_n X 2 dX6_bad_14 rfl rfl ?_
    refine tm_putI X (fiXR_90_5 ad ac dA tt sc) in_X6 rfl (Nat.le_of_ble_eq_true rfl) tyX6 tyX6_ok nmX6 rfl rfl q350 rfl dX6_bad_15 (fun h2 => ?_)
    exact tm_retV (wf := wXR ad ac dA tt sc) hRet dX6_bad_18
  · skip
    exact tm_retV (wf := wXR ad ac dA tt sc) hRet dX6_bad_7
def mX6_seesDigit (h : Hp)  : Option (Int32) :=
cl1 (mX6_here h) (fun r2 =>
nm (fun (s3 : Int32) =>
bz s3 (some s3)) (fun k23 =>
nm (
k23 (0 : Int32)) (fun k22 =>
if r2 < (48 : Int32) then (
k22) else (
cl1 (mX6_here h) (fun r5 =>
if (57 : Int32) < r5 then (
k22) else (
k23 (1 : Int32)))))))
theorem cyX6_seesDigit : Callee yX6_seesDigit 0 := by unfold Callee; decide +kernel
set_option maxHeartbeats 4000000 in
theorem ctX6_seesDigit (l : Launch) (D : va_G) (ad ac : Nat → Nat) (dA : Nat → ClassId) (tt : (Nat → Option Nat) × (Nat → Option Nat) × va_W) (sc : (Nat → Option Nat) × (Nat → Option Nat)) (h : Hp)  (r : Int32) (hm : mX6_seesDigit h = some r) : CT l yX6_seesDigit cX6_seesDigit 1 (some .boolean) D dA 1 20 0 0 (wXR ad ac dA tt sc h) [.ref (ac 90)] (some (.int r)) (wXR ad ac dA tt sc h) := by
  refine ct_open (by decide) (Nat.le_of_ble_eq_true rfl) ?_
  intro G X hI hZ hV hR
  have hRet := fun hv => hZ rfl r hv rfl
  refine (show TM G r (mX6_seesDigit h) (wXR ad ac dA tt sc h) 0 0 0 [(0, .ref (ac 90))] [] from ?_) hm
  clear hm hI hZ hV hR
  unfold mX6_seesDigit
  refine tm_aload_n X 0 dX6_seesDigit_0 rfl rfl ?_
  refine tm_cl1 (fun r2 e1 => ?_)
  refine tm_callVi (As := []) (rest := []) (q0 := (35 + tt.2.2.length + 0)) X (ctX6_here l D ad ac dA tt sc h r2 e1) (lw_V q379 q381 qs3 q123 q382) cyX6_here rfl (Classical.choose_spec (obXR_90 ad ac dA tt sc h)) rfl ⟨(Nat.le_of_ble_eq_true rfl), (Nat.le_of_ble_eq_true rfl)⟩ (Nat.le_of_ble_eq_true rfl) dX6_seesDigit_1 ⟨Nat.le_of_ble_eq_true rfl, Nat.le_of_ble_eq_true rfl⟩ rfl ?_
  refine tm_bipush X (48 : Int32) dX6_seesDigit_4 (by decide) ?_
  refine tm_let (fun k => ∀ (s3 : Int32), TM G r (k s3) (wXR ad ac dA tt sc h) 0 0 23 [] [.int s3]) ?_ (fun k23 hk23 => ?_)
  · intro s3
    exact tm_retZ hRet dX6_seesDigit_23
  · skip
    refine tm_let (fun k => TM G r k (wXR ad ac dA tt sc h) 0 0 22 [] []) ?_ (fun k22 hk22 => ?_)
    · skip
      refine tm_iconst X (0 : Int32) dX6_seesDigit_22 (by decide) ?_
      exact hk23 (0 : Int32)
    · skip
      refine tm_ic_lt X 22 dX6_seesDigit_6 rfl ?_ ?_
      · skip
        refine tm_lv X [] rfl ?_
        exact hk22
      · skip
        refine tm_aload_n X 0 dX6_seesDigit_9 rfl rfl ?_
        refine tm_cl1 (fun r5 e4 => ?_)
        refine tm_callVi (As := []) (rest := []) (q0 := (35 + tt.2.2.length + 0)) X (ctX6_here l D ad ac dA tt sc h r5 e4) (lw_V q379 q381 qs3 q123 q382) cyX6_here rfl (Classical.choose_spec (obXR_90 ad ac dA tt sc h)) rfl ⟨(Nat.le_of_ble_eq_true rfl), (Nat.le_of_ble_eq_true rfl)⟩ (Nat.le_of_ble_eq_true rfl) dX6_seesDigit_10 ⟨Nat.le_of_ble_eq_true rfl, Nat.le_of_ble_eq_true rfl⟩ rfl ?_
        refine tm_bipush X (57 : Int32) dX6_seesDigit_13 (by decide) ?_
        refine tm_ic_gt X 22 dX6_seesDigit_15 rfl ?_ ?_
        · skip
          refine tm_lv X [] rfl ?_
          exact hk22
        · skip
          refine tm_iconst X (1 : Int32) dX6_seesDigit_18 (by decide) ?_
          refine tm_goto X 23 dX6_seesDigit_19 rfl ?_
          refine tm_lv X [] rfl ?_
          exact hk23 (1 : Int32)
def mX6_number (h : Hp)  : Option (Int32 × Hp) :=
nm ((h 90 2)) (fun v1 =>
fx FU (fun _ _ => none) (fun k7 (x2_2 : Int32) (h3 : Hp) =>
cl1 (mX6_isGood h3) (fun r5 =>
nm (
some (x2_2, h3)) (fun k66 =>
if r5 = 0 then (
k66) else (
cl1 (mX6_seesDigit h3) (fun r7 =>
if r7 = 0 then (
k66) else (
nm (fun (h8 : Hp) =>
cl1 (mX6_here h8) (fun r10 =>
nm (((((10 : Int32) * x2_2) + r10) - (48 : Int32))) (fun v11 =>
nm (u2 h8 90 2 ((h8 90 2) + (1 : Int32))) (fun h12 =>
k7 v11 h12)))) (fun k40 =>
if (h3 90 2) = (v1 + (5 : Int32)) then (
cl1 (mX6_bad h3 (2 : Int32) (h3 90 2)) (fun h14 =>
k40 h14)) else (
k40 h3)))))))) (0 : Int32) h)
theorem cyX6_number : Callee yX6_number 0 := by unfold Callee; decide +kernel
set_option maxHeartbeats 4000000 in
theorem ctX6_number (l : Launch) (D : va_G) (ad ac : Nat → Nat) (dA : Nat → ClassId) (tt : (Nat → Option Nat) × (Nat → Option Nat) × va_W) (sc : (Nat → Option Nat) × (Nat → Option Nat)) (h : Hp)  (r : Int32) (h' : Hp) (hm : mX6_number h = some (r, h')) : CT l yX6_number cX6_number 3 (some .int) D dA 2 40 0 0 (wXR ad ac dA tt sc h) [.ref (ac 90)] (some (.int r)) (wXR ad ac dA tt sc h') := by
  refine ct_open (by decide) (Nat.le_of_ble_eq_true rfl) ?_
  intro G X hI hZ hV hR
  have hRet := hI rfl r rfl
  refine (show TM G (r, h') (mX6_number h) (wXR ad ac dA tt sc h) 0 0 0 [(0, .ref (ac 90))] [] from ?_) hm
  clear hm hI hZ hV hR
  unfold mX6_number
  refine tm_aload_n X 0 dX6_number_0 rfl rfl ?_
  refine tm_getI X (fiXR_90_2 ad ac dA tt sc) in_X6 rfl (Nat.le_of_ble_eq_true rfl) q347 rfl dX6_number_1 ?_
  refine tm_nmI (fun v1 => ?_)
  refine tm_istore_n X [(1, .int v1), (0, .ref (ac 90))] dX6_number_4 rfl (Nat.le_of_ble_eq_true rfl) rfl ?_
  refine tm_iconst X (0 : Int32) dX6_number_5 (by decide) ?_
  refine tm_istore_n X [(2, .int (0 : Int32)), (1, .int v1), (0, .ref (ac 90))] dX6_number_6 rfl (Nat.le_of_ble_eq_true rfl) rfl ?_
  refine tm_lv X [2, 1, 0] rfl ?_
  refine fx_P (fun (k : Int32 → Hp → Option (Int32 × Hp)) => ∀ (x2_2 : Int32) (h3 : Hp), TM G (r, h') (k x2_2 h3) (wXR ad ac dA tt sc h3) 0 0 7 [(0, .ref (ac 90)), (1, .int v1), (2, .int x2_2)] []) (fun _ _ => tm_none) (fun k7 hk7 x2_2 h3 => ?_) FU (0 : Int32) h
  refine tm_aload_n X 0 dX6_number_7 rfl rfl ?_
  refine tm_cl1 (fun r5 e4 => ?_)
  refine tm_callVi (As := []) (rest := []) (q0 := (35 + tt.2.2.length + 0)) X (ctX6_isGood l D ad ac dA tt sc h3 r5 e4) (lw_V q371 q373 qs1 q123 q374) cyX6_isGood rfl (Classical.choose_spec (obXR_90 ad ac dA tt sc h3)) rfl ⟨(Nat.le_of_ble_eq_true rfl), (Nat.le_of_ble_eq_true rfl)⟩ (Nat.le_of_ble_eq_true rfl) dX6_number_8 ⟨Nat.le_of_ble_eq_true rfl, Nat.le_of_ble_eq_true rfl⟩ rfl ?_
  refine tm_let (fun k => TM G (r, h') k (wXR ad ac dA tt sc h3) 0 0 66 [(2, .int x2_2)] []) ?_ (fun k66 hk66 => ?_)
  · skip
    refine tm_iload_n X 0 dX6_number_66 rfl rfl ?_
    exact tm_retIH (wf := wXR ad ac dA tt sc) hRet dX6_number_67
  · skip
    refine tm_if_eq X 66 dX6_number_11 rfl ?_ ?_
    · skip
      refine tm_lv X [2] rfl ?_
      exact hk66
    · skip
      refine tm_aload_n X 0 dX6_number_14 rfl rfl ?_
      refine tm_cl1 (fun r7 e6 => ?_)
      refine tm_callVi (As := []) (rest := []) (q0 := (35 + tt.2.2.length + 0)) X (ctX6_seesDigit l D ad ac dA tt sc h3 r7 e6) (lw_V q496 q498 qs10 q123 q499) cyX6_seesDigit rfl (Classical.choose_spec (obXR_90 ad ac dA tt sc h3)) rfl ⟨(Nat.le_of_ble_eq_true rfl), (Nat.le_of_ble_eq_true rfl)⟩ (Nat.le_of_ble_eq_true rfl) dX6_number_15 ⟨Nat.le_of_ble_eq_true rfl, Nat.le_of_ble_eq_true rfl⟩ rfl ?_
      refine tm_if_eq X 66 dX6_number_18 rfl ?_ ?_
      · skip
        refine tm_lv X [2] rfl ?_
        exact hk66
      · skip
        refine tm_aload_n X 0 dX6_number_21 rfl rfl ?_
        refine tm_getI X (fiXR_90_2 ad ac dA tt sc) in_X6 rfl (Nat.le_of_ble_eq_true rfl) q347 rfl dX6_number_22 ?_
        refine tm_iload_n X 1 dX6_number_25 rfl rfl ?_
        refine tm_iconst X (5 : Int32) dX6_number_26 (by decide) ?_
        refine tm_iadd X dX6_number_27 ?_
        refine tm_let (fun k => ∀ (h8 : Hp), TM G (r, h') (k h8) (wXR ad ac dA tt sc h8) 0 0 40 [(0, .ref (ac 90)), (1, .int v1), (2, .int x2_2)] []) ?_ (fun k40 hk40 => ?_)
        · intro h8
          refine tm_bipush X (10 : Int32) dX6_number_40 (by decide) ?_
          refine tm_iload_n X 2 dX6_number_42 rfl rfl ?_
          refine tm_imul X dX6_number_43 ?_
          refine tm_aload_n X 0 dX6_number_44 rfl rfl ?_
          refine tm_cl1 (fun r10 e9 => ?_)
          refine tm_callVi (As := []) (rest := [.int ((10 : Int32) * x2_2)]) (q0 := (35 + tt.2.2.length + 0)) X (ctX6_here l D ad ac dA tt sc h8 r10 e9) (lw_V q379 q381 qs3 q123 q382) cyX6_here rfl (Classical.choose_spec (obXR_90 ad ac dA tt sc h8)) rfl ⟨(Nat.le_of_ble_eq_true rfl), (Nat.le_of_ble_eq_true rfl)⟩ (Nat.le_of_ble_eq_true rfl) dX6_number_45 ⟨Nat.le_of_ble_eq_true rfl, Nat.le_of_ble_eq_true rfl⟩ rfl ?_
          refine tm_iadd X dX6_number_48 ?_
          refine tm_bipush X (48 : Int32) dX6_number_49 (by decide) ?_
          refine tm_isub X dX6_number_51 ?_
          refine tm_nmI (fun v11 => ?_)
          refine tm_istore_n X [(2, .int v11), (0, .ref (ac 90)), (1, .int v1)] dX6_number_52 rfl (Nat.le_of_ble_eq_true rfl) rfl ?_
          refine tm_aload_n X 1 dX6_number_53 rfl rfl ?_
          refine tm_dup X dX6_number_54 rfl ?_
          refine tm_getI X (fiXR_90_2 ad ac dA tt sc) in_X6 rfl (Nat.le_of_ble_eq_true rfl) q347 rfl dX6_number_55 ?_
          refine tm_iconst X (1 : Int32) dX6_number_58 (by decide) ?_
          refine tm_iadd X dX6_number_59 ?_
          refine tm_putI X (fiXR_90_2 ad ac dA tt sc) in_X6 rfl (Nat.le_of_ble_eq_true rfl) tyX6 tyX6_ok nmX6 rfl rfl q347 rfl dX6_number_60 (fun h12 => ?_)
          refine tm_goto X 7 dX6_number_63 rfl ?_
          refine tm_lv X [1, 2, 0] rfl ?_
          exact hk7 v11 h12
        · skip
          refine tm_ic_ne X 40 dX6_number_28 rfl ?_ ?_
          · skip
            exact hk40 h3
          · skip
            refine tm_aload_n X 0 dX6_number_31 rfl rfl ?_
            refine tm_iconst X (2 : Int32) dX6_number_32 (by decide) ?_
            refine tm_aload_n X 0 dX6_number_33 rfl rfl ?_
            refine tm_getI X (fiXR_90_2 ad ac dA tt sc) in_X6 rfl (Nat.le_of_ble_eq_true rfl) q347 rfl dX6_number_34 ?_
            refine tm_cl1 (fun h14 e13 => ?_)
            refine tm_callVv (As := [.int (2 : Int32), .int (h3 90 2)]) (rest := []) (q0 := (35 + tt.2.2.length + 0)) X (ctX6_bad l D ad ac dA tt sc h3 (2 : Int32) (h3 90 2) h14 e13) (lw_V q470 q472 qs4 q123 q473) cyX6_bad rfl (Classical.choose_spec (obXR_90 ad ac dA tt sc h3)) rfl ⟨(Nat.le_of_ble_eq_true rfl), (Nat.le_of_ble_eq_true rfl)⟩ (Nat.le_of_ble_eq_true rfl) dX6_number_37 ⟨Nat.le_of_ble_eq_true rfl, Nat.le_of_ble_eq_true rfl⟩ rfl ?_
            exact hk40 h14
def mX6_must (h : Hp) (x1 : Int32) : Option (Hp) :=
cl1 (mX6_here h) (fun r2 =>
nm (fun (h3 : Hp) =>
nm (u2 h3 90 2 ((h3 90 2) + (1 : Int32))) (fun h4 =>
some h4)) (fun k17 =>
if r2 = x1 then (
k17 h) else (
cl1 (mX6_bad h (1 : Int32) (h 90 2)) (fun h6 =>
k17 h6))))
theorem cyX6_must : Callee yX6_must 1 := by unfold Callee; decide +kernel
set_option maxHeartbeats 4000000 in
theorem ctX6_must (l : Launch) (D : va_G) (ad ac : Nat → Nat) (dA : Nat → ClassId) (tt : (Nat → Option Nat) × (Nat → Option Nat) × va_W) (sc : (Nat → Option Nat) × (Nat → Option Nat)) (h : Hp) (x1 : Int32) (h' : Hp) (hm : mX6_must h x1 = some h') : CT l yX6_must cX6_must 2 none D dA 1 22 0 0 (wXR ad ac dA tt sc h) [.ref (ac 90), .int x1] none (wXR ad ac dA tt sc h') := by
  refine ct_open (by decide) (Nat.le_of_ble_eq_true rfl) ?_
  intro G X hI hZ hV hR
  have hRet := hV rfl rfl
  refine (show TM G h' (mX6_must h x1) (wXR ad ac dA tt sc h) 0 0 0 [(0, .ref (ac 90)), (1, .int x1)] [] from ?_) hm
  clear hm hI hZ hV hR
  unfold mX6_must
  refine tm_aload_n X 0 dX6_must_0 rfl rfl ?_
  refine tm_cl1 (fun r2 e1 => ?_)
  refine tm_callVi (As := []) (rest := []) (q0 := (35 + tt.2.2.length + 0)) X (ctX6_here l D ad ac dA tt sc h r2 e1) (lw_V q379 q381 qs3 q123 q382) cyX6_here rfl (Classical.choose_spec (obXR_90 ad ac dA tt sc h)) rfl ⟨(Nat.le_of_ble_eq_true rfl), (Nat.le_of_ble_eq_true rfl)⟩ (Nat.le_of_ble_eq_true rfl) dX6_must_1 ⟨Nat.le_of_ble_eq_true rfl, Nat.le_of_ble_eq_true rfl⟩ rfl ?_
  refine tm_iload_n X 1 dX6_must_4 rfl rfl ?_
  refine tm_let (fun k => ∀ (h3 : Hp), TM G h' (k h3) (wXR ad ac dA tt sc h3) 0 0 17 [(0, .ref (ac 90))] []) ?_ (fun k17 hk17 => ?_)
  · intro h3
    refine tm_aload_n X 0 dX6_must_17 rfl rfl ?_
    refine tm_dup X dX6_must_18 rfl ?_
    refine tm_getI X (fiXR_90_2 ad ac dA tt sc) in_X6 rfl (Nat.le_of_ble_eq_true rfl) q347 rfl dX6_must_19 ?_
    refine tm_iconst X (1 : Int32) dX6_must_22 (by decide) ?_
    refine tm_iadd X dX6_must_23 ?_
    refine tm_putI X (fiXR_90_2 ad ac dA tt sc) in_X6 rfl (Nat.le_of_ble_eq_true rfl) tyX6 tyX6_ok nmX6 rfl rfl q347 rfl dX6_must_24 (fun h4 => ?_)
    exact tm_retV (wf := wXR ad ac dA tt sc) hRet dX6_must_27
  · skip
    refine tm_ic_eq X 17 dX6_must_5 rfl ?_ ?_
    · skip
      refine tm_lv X [0] rfl ?_
      exact hk17 h
    · skip
      refine tm_aload_n X 0 dX6_must_8 rfl rfl ?_
      refine tm_iconst X (1 : Int32) dX6_must_9 (by decide) ?_
      refine tm_aload_n X 0 dX6_must_10 rfl rfl ?_
      refine tm_getI X (fiXR_90_2 ad ac dA tt sc) in_X6 rfl (Nat.le_of_ble_eq_true rfl) q347 rfl dX6_must_11 ?_
      refine tm_cl1 (fun h6 e5 => ?_)
      refine tm_callVv (As := [.int (1 : Int32), .int (h 90 2)]) (rest := []) (q0 := (35 + tt.2.2.length + 0)) X (ctX6_bad l D ad ac dA tt sc h (1 : Int32) (h 90 2) h6 e5) (lw_V q470 q472 qs4 q123 q473) cyX6_bad rfl (Classical.choose_spec (obXR_90 ad ac dA tt sc h)) rfl ⟨(Nat.le_of_ble_eq_true rfl), (Nat.le_of_ble_eq_true rfl)⟩ (Nat.le_of_ble_eq_true rfl) dX6_must_14 ⟨Nat.le_of_ble_eq_true rfl, Nat.le_of_ble_eq_true rfl⟩ rfl ?_
      refine tm_lv X [0] rfl ?_
      exact hk17 h6
def mX6_opens (h : Hp)  : Option (Hp) :=
nm (fun (h1 : Hp) =>
nm (u2 h1 90 3 ((h1 90 3) + (1 : Int32))) (fun h2 =>
nm (u2 h2 90 2 ((h2 90 2) + (1 : Int32))) (fun h3 =>
some h3))) (fun k18 =>
if (h 90 3) = (6 : Int32) then (
cl1 (mX6_bad h (5 : Int32) (h 90 2)) (fun h5 =>
k18 h5)) else (
k18 h))
theorem cyX6_opens : Callee yX6_opens 0 := by unfold Callee; decide +kernel
set_option maxHeartbeats 4000000 in
theorem ctX6_opens (l : Launch) (D : va_G) (ad ac : Nat → Nat) (dA : Nat → ClassId) (tt : (Nat → Option Nat) × (Nat → Option Nat) × va_W) (sc : (Nat → Option Nat) × (Nat → Option Nat)) (h : Hp)  (h' : Hp) (hm : mX6_opens h = some h') : CT l yX6_opens cX6_opens 1 none D dA 1 22 0 0 (wXR ad ac dA tt sc h) [.ref (ac 90)] none (wXR ad ac dA tt sc h') := by
  refine ct_open (by decide) (Nat.le_of_ble_eq_true rfl) ?_
  intro G X hI hZ hV hR
  have hRet := hV rfl rfl
  refine (show TM G h' (mX6_opens h) (wXR ad ac dA tt sc h) 0 0 0 [(0, .ref (ac 90))] [] from ?_) hm
  clear hm hI hZ hV hR
  unfold mX6_opens
  refine tm_aload_n X 0 dX6_opens_0 rfl rfl ?_
  refine tm_getI X (fiXR_90_3 ad ac dA tt sc) in_X6 rfl (Nat.le_of_ble_eq_true rfl) q348 rfl dX6_opens_1 ?_
  refine tm_bipush X (6 : Int32) dX6_opens_4 (by decide) ?_
  refine tm_let (fun k => ∀ (h1 : Hp), TM G h' (k h1) (wXR ad ac dA tt sc h1) 0 0 18 [(0, .ref (ac 90))] []) ?_ (fun k18 hk18 => ?_)
  · intro h1
    refine tm_aload_n X 0 dX6_opens_18 rfl rfl ?_
    refine tm_dup X dX6_opens_19 rfl ?_
    refine tm_getI X (fiXR_90_3 ad ac dA tt sc) in_X6 rfl (Nat.le_of_ble_eq_true rfl) q348 rfl dX6_opens_20 ?_
    refine tm_iconst X (1 : Int32) dX6_opens_23 (by decide) ?_
    refine tm_iadd X dX6_opens_24 ?_
    refine tm_putI X (fiXR_90_3 ad ac dA tt sc) in_X6 rfl (Nat.le_of_ble_eq_true rfl) tyX6 tyX6_ok nmX6 rfl rfl q348 rfl dX6_opens_25 (fun h2 => ?_)
    refine tm_aload_n X 0 dX6_opens_28 rfl rfl ?_
    refine tm_dup X dX6_opens_29 rfl ?_
    refine tm_getI X (fiXR_90_2 ad ac dA tt sc) in_X6 rfl (Nat.le_of_ble_eq_true rfl) q347 rfl dX6_opens_30 ?_
    refine tm_iconst X (1 : Int32) dX6_opens_33 (by decide) ?_
    refine tm_iadd X dX6_opens_34 ?_
    refine tm_putI X (fiXR_90_2 ad ac dA tt sc) in_X6 rfl (Nat.le_of_ble_eq_true rfl) tyX6 tyX6_ok nmX6 rfl rfl q347 rfl dX6_opens_35 (fun h3 => ?_)
    exact tm_retV (wf := wXR ad ac dA tt sc) hRet dX6_opens_38
  · skip
    refine tm_ic_ne X 18 dX6_opens_6 rfl ?_ ?_
    · skip
      exact hk18 h
    · skip
      refine tm_aload_n X 0 dX6_opens_9 rfl rfl ?_
      refine tm_iconst X (5 : Int32) dX6_opens_10 (by decide) ?_
      refine tm_aload_n X 0 dX6_opens_11 rfl rfl ?_
      refine tm_getI X (fiXR_90_2 ad ac dA tt sc) in_X6 rfl (Nat.le_of_ble_eq_true rfl) q347 rfl dX6_opens_12 ?_
      refine tm_cl1 (fun h5 e4 => ?_)
      refine tm_callVv (As := [.int (5 : Int32), .int (h 90 2)]) (rest := []) (q0 := (35 + tt.2.2.length + 0)) X (ctX6_bad l D ad ac dA tt sc h (5 : Int32) (h 90 2) h5 e4) (lw_V q470 q472 qs4 q123 q473) cyX6_bad rfl (Classical.choose_spec (obXR_90 ad ac dA tt sc h)) rfl ⟨(Nat.le_of_ble_eq_true rfl), (Nat.le_of_ble_eq_true rfl)⟩ (Nat.le_of_ble_eq_true rfl) dX6_opens_15 ⟨Nat.le_of_ble_eq_true rfl, Nat.le_of_ble_eq_true rfl⟩ rfl ?_
      exact hk18 h5
