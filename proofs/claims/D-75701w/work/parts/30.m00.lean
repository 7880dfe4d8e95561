set_option maxRecDepth 100000
def mX5_in (x0 : Int32) (x1 : Int32) (x2 : Int32) : Option (Int32) :=
nm (fun (s1 : Int32) =>
bz s1 (some s1)) (fun k15 =>
nm (
k15 (0 : Int32)) (fun k14 =>
if x0 < x1 then (
k14) else (
if x2 < x0 then (
k14) else (
k15 (1 : Int32)))))
theorem cyX5_in : Callee yX5_in 3 := by unfold Callee; decide +kernel
set_option maxHeartbeats 4000000 in
theorem ctX5_in (l : Launch) (D : va_G) (dA : Nat → ClassId) (x0 : Int32) (x1 : Int32) (x2 : Int32) (r : Int32) (hm : mX5_in x0 x1 x2 = some r) : CT l yX5_in cX5_in 3 (some .boolean) D dA 0 0 0 0 [] [.int x0, .int x1, .int x2] (some (.int r)) [] := by
  refine ct_open (by decide) (Nat.le_of_ble_eq_true rfl) ?_
  intro G X hI hZ hV hR
  have hRet := fun hv => hZ rfl r hv rfl
  refine (show TM G r (mX5_in x0 x1 x2) [] 0 0 0 [(0, .int x0), (1, .int x1), (2, .int x2)] [] from ?_) hm
  clear hm hI hZ hV hR
  unfold mX5_in
  refine tm_iload_n X 0 dX5_in_0 rfl rfl ?_
  refine tm_iload_n X 1 dX5_in_1 rfl rfl ?_
  refine tm_let (fun k => ∀ (s1 : Int32), TM G r (k s1) [] 0 0 15 [] [.int s1]) ?_ (fun k15 hk15 => ?_)
  · intro s1
    exact tm_retZ hRet dX5_in_15
  · skip
    refine tm_let (fun k => TM G r k [] 0 0 14 [] []) ?_ (fun k14 hk14 => ?_)
    · skip
      refine tm_iconst X (0 : Int32) dX5_in_14 (by decide) ?_
      exact hk15 (0 : Int32)
    · skip
      refine tm_ic_lt X 14 dX5_in_2 rfl ?_ ?_
      · skip
        refine tm_lv X [] rfl ?_
        exact hk14
      · skip
        refine tm_iload_n X 0 dX5_in_5 rfl rfl ?_
        refine tm_iload_n X 2 dX5_in_6 rfl rfl ?_
        refine tm_ic_gt X 14 dX5_in_7 rfl ?_ ?_
        · skip
          refine tm_lv X [] rfl ?_
          exact hk14
        · skip
          refine tm_iconst X (1 : Int32) dX5_in_10 (by decide) ?_
          refine tm_goto X 15 dX5_in_11 rfl ?_
          refine tm_lv X [] rfl ?_
          exact hk15 (1 : Int32)
def mX5_isCast (x0 : Int32) : Option (Int32) :=
cl1 (mX5_in x0 (0 : Int32) (1 : Int32)) (fun r1 =>
bz r1 (some r1))
theorem cyX5_isCast : Callee yX5_isCast 1 := by unfold Callee; decide +kernel
set_option maxHeartbeats 4000000 in
theorem ctX5_isCast (l : Launch) (D : va_G) (dA : Nat → ClassId) (x0 : Int32) (r : Int32) (hm : mX5_isCast x0 = some r) : CT l yX5_isCast cX5_isCast 1 (some .boolean) D dA 1 22 0 0 [] [.int x0] (some (.int r)) [] := by
  refine ct_open (by decide) (Nat.le_of_ble_eq_true rfl) ?_
  intro G X hI hZ hV hR
  have hRet := fun hv => hZ rfl r hv rfl
  refine (show TM G r (mX5_isCast x0) [] 0 0 0 [(0, .int x0)] [] from ?_) hm
  clear hm hI hZ hV hR
  unfold mX5_isCast
  refine tm_iload_n X 0 dX5_isCast_0 rfl rfl ?_
  refine tm_iconst X (0 : Int32) dX5_isCast_1 (by decide) ?_
  refine tm_iconst X (1 : Int32) dX5_isCast_2 (by decide) ?_
  refine tm_cl1 (fun r1 e2 => ?_)
  refine tm_callSi (As := [.int x0, .int (0 : Int32), .int (1 : Int32)]) (rest := []) X (ctX5_in l D dA x0 (0 : Int32) (1 : Int32) r1 e2) (lw_S q1366 q1367 q122 q1368) cyX5_in rfl ⟨(Nat.le_of_ble_eq_true rfl), (Nat.le_of_ble_eq_true rfl)⟩ (Nat.le_of_ble_eq_true rfl) dX5_isCast_3 ⟨Nat.le_of_ble_eq_true rfl, Nat.le_of_ble_eq_true rfl⟩ rfl ?_
  exact tm_retZ hRet dX5_isCast_6
def mX5_isPlace (x0 : Int32) : Option (Int32) :=
cl1 (mX5_in x0 (0 : Int32) (47 : Int32)) (fun r1 =>
bz r1 (some r1))
theorem cyX5_isPlace : Callee yX5_isPlace 1 := by unfold Callee; decide +kernel
set_option maxHeartbeats 4000000 in
theorem ctX5_isPlace (l : Launch) (D : va_G) (dA : Nat → ClassId) (x0 : Int32) (r : Int32) (hm : mX5_isPlace x0 = some r) : CT l yX5_isPlace cX5_isPlace 1 (some .boolean) D dA 1 22 0 0 [] [.int x0] (some (.int r)) [] := by
  refine ct_open (by decide) (Nat.le_of_ble_eq_true rfl) ?_
  intro G X hI hZ hV hR
  have hRet := fun hv => hZ rfl r hv rfl
  refine (show TM G r (mX5_isPlace x0) [] 0 0 0 [(0, .int x0)] [] from ?_) hm
  clear hm hI hZ hV hR
  unfold mX5_isPlace
  refine tm_iload_n X 0 dX5_isPlace_0 rfl rfl ?_
  refine tm_iconst X (0 : Int32) dX5_isPlace_1 (by decide) ?_
  refine tm_bipush X (47 : Int32) dX5_isPlace_2 (by decide) ?_
  refine tm_cl1 (fun r1 e2 => ?_)
  refine tm_callSi (As := [.int x0, .int (0 : Int32), .int (47 : Int32)]) (rest := []) X (ctX5_in l D dA x0 (0 : Int32) (47 : Int32) r1 e2) (lw_S q1366 q1367 q122 q1368) cyX5_in rfl ⟨(Nat.le_of_ble_eq_true rfl), (Nat.le_of_ble_eq_true rfl)⟩ (Nat.le_of_ble_eq_true rfl) dX5_isPlace_4 ⟨Nat.le_of_ble_eq_true rfl, Nat.le_of_ble_eq_true rfl⟩ rfl ?_
  exact tm_retZ hRet dX5_isPlace_7
def mX5_height (h : Hp) (x1 : Int32) (x2 : Int32) (x3 : Int32) : Option (Int32 × Hp) :=
cl1 (mX5_isCast x1) (fun r1 =>
nm (
bz (0 : Int32) (some ((0 : Int32), h))) (fun k24 =>
if r1 = 0 then (
k24) else (
cl1 (mX5_isPlace x2) (fun r3 =>
if r3 = 0 then (
k24) else (
cl1 (mX5_in x3 (0 : Int32) (25 : Int32)) (fun r5 =>
if r5 = 0 then (
k24) else (
ck (((48 : Int32) * x1) + x2) 96 (nm (u2 h 200 (((48 : Int32) * x1) + x2).toNatClampNeg x3) (fun h7 =>
bz (1 : Int32) (some ((1 : Int32), h7)))))))))))
theorem cyX5_height : Callee yX5_height 3 := by unfold Callee; decide +kernel
set_option maxHeartbeats 4000000 in
theorem ctX5_height (l : Launch) (D : va_G) (ad : Nat → Nat) (dA : Nat → ClassId) (h : Hp) (x1 : Int32) (x2 : Int32) (x3 : Int32) (r : Int32) (h' : Hp) (hm : mX5_height h x1 x2 x3 = some (r, h')) : CT l yX5_height cX5_height 4 (some .boolean) D dA 2 42 0 0 (wM ad dA h) [.ref (ad 300), .int x1, .int x2, .int x3] (some (.int r)) (wM ad dA h') := by
  refine ct_open (by decide) (Nat.le_of_ble_eq_true rfl) ?_
  intro G X hI hZ hV hR
  have hRet := fun hv => hZ rfl r hv rfl
  refine (show TM G (r, h') (mX5_height h x1 x2 x3) (wM ad dA h) 0 0 0 [(0, .ref (ad 300)), (1, .int x1), (2, .int x2), (3, .int x3)] [] from ?_) hm
  clear hm hI hZ hV hR
  unfold mX5_height
  refine tm_iload_n X 1 dX5_height_0 rfl rfl ?_
  refine tm_cl1 (fun r1 e2 => ?_)
  refine tm_callSi (As := [.int x1]) (rest := []) X (ctX5_isCast l D dA x1 r1 e2) (lw_S q1363 q1364 q122 q1365) cyX5_isCast rfl ⟨(Nat.le_of_ble_eq_true rfl), (Nat.le_of_ble_eq_true rfl)⟩ (Nat.le_of_ble_eq_true rfl) dX5_height_1 ⟨Nat.le_of_ble_eq_true rfl, Nat.le_of_ble_eq_true rfl⟩ rfl ?_
  refine tm_let (fun k => TM G (r, h') k (wM ad dA h) 0 0 24 [] []) ?_ (fun k24 hk24 => ?_)
  · skip
    refine tm_iconst X (0 : Int32) dX5_height_24 (by decide) ?_
    exact tm_retZH (wf := wM ad dA) hRet dX5_height_25
  · skip
    refine tm_if_eq X 24 dX5_height_4 rfl ?_ ?_
    · skip
      refine tm_lv X [] rfl ?_
      exact hk24
    · skip
      refine tm_iload_n X 2 dX5_height_7 rfl rfl ?_
      refine tm_cl1 (fun r3 e4 => ?_)
      refine tm_callSi (As := [.int x2]) (rest := []) X (ctX5_isPlace l D dA x2 r3 e4) (lw_S q1369 q1370 q122 q1371) cyX5_isPlace rfl ⟨(Nat.le_of_ble_eq_true rfl), (Nat.le_of_ble_eq_true rfl)⟩ (Nat.le_of_ble_eq_true rfl) dX5_height_8 ⟨Nat.le_of_ble_eq_true rfl, Nat.le_of_ble_eq_true rfl⟩ rfl ?_
      refine tm_if_eq X 24 dX5_height_11 rfl ?_ ?_
      · skip
        refine tm_lv X [] rfl ?_
        exact hk24
      · skip
        refine tm_iload_n X 3 dX5_height_14 rfl rfl ?_
        refine tm_iconst X (0 : Int32) dX5_height_15 (by decide) ?_
        refine tm_bipush X (25 : Int32) dX5_height_16 (by decide) ?_
        refine tm_cl1 (fun r5 e6 => ?_)
        refine tm_callSi (As := [.int x3, .int (0 : Int32), .int (25 : Int32)]) (rest := []) X (ctX5_in l D dA x3 (0 : Int32) (25 : Int32) r5 e6) (lw_S q1366 q1367 q122 q1368) cyX5_in rfl ⟨(Nat.le_of_ble_eq_true rfl), (Nat.le_of_ble_eq_true rfl)⟩ (Nat.le_of_ble_eq_true rfl) dX5_height_18 ⟨Nat.le_of_ble_eq_true rfl, Nat.le_of_ble_eq_true rfl⟩ rfl ?_
        refine tm_if_ne X 26 dX5_height_21 rfl ?_ ?_
        · skip
          refine tm_aload_n X 0 dX5_height_26 rfl rfl ?_
          refine tm_getR X (frM_300_0 ad dA h) in_X5 rfl (Nat.le_of_ble_eq_true rfl) q1187 rfl dX5_height_27 ?_
          refine tm_bipush X (48 : Int32) dX5_height_30 (by decide) ?_
          refine tm_iload_n X 1 dX5_height_32 rfl rfl ?_
          refine tm_imul X dX5_height_33 ?_
          refine tm_iload_n X 2 dX5_height_34 rfl rfl ?_
          refine tm_iadd X dX5_height_35 ?_
          refine tm_iload_n X 3 dX5_height_36 rfl rfl ?_
          refine tm_iastore X (arM_200 ad dA) dX5_height_37 (fun h7 => ?_)
          refine tm_iconst X (1 : Int32) dX5_height_38 (by decide) ?_
          exact tm_retZH (wf := wM ad dA) hRet dX5_height_39
        · skip
          refine tm_lv X [] rfl ?_
          exact hk24
def mX5_heightOf (h : Hp) (x1 : Int32) (x2 : Int32) : Option (Int32) :=
cl1 (mX5_isCast x1) (fun r1 =>
nm (fun (s3 : Int32) =>
some s3) (fun k29 =>
nm (
k29 (-1 : Int32)) (fun k28 =>
if r1 = 0 then (
k28) else (
cl1 (mX5_isPlace x2) (fun r4 =>
if r4 = 0 then (
k28) else (
nm ((((48 : Int32) * x1) + x2)) (fun v6 =>
ck v6 96 (
k29 (h 200 v6.toNatClampNeg)))))))))
theorem cyX5_heightOf : Callee yX5_heightOf 2 := by unfold Callee; decide +kernel
set_option maxHeartbeats 4000000 in
theorem ctX5_heightOf (l : Launch) (D : va_G) (ad : Nat → Nat) (dA : Nat → ClassId) (h : Hp) (x1 : Int32) (x2 : Int32) (r : Int32) (hm : mX5_heightOf h x1 x2 = some r) : CT l yX5_heightOf cX5_heightOf 3 (some .int) D dA 2 42 0 0 (wM ad dA h) [.ref (ad 300), .int x1, .int x2] (some (.int r)) (wM ad dA h) := by
  refine ct_open (by decide) (Nat.le_of_ble_eq_true rfl) ?_
  intro G X hI hZ hV hR
  have hRet := hI rfl r rfl
  refine (show TM G r (mX5_heightOf h x1 x2) (wM ad dA h) 0 0 0 [(0, .ref (ad 300)), (1, .int x1), (2, .int x2)] [] from ?_) hm
  clear hm hI hZ hV hR
  unfold mX5_heightOf
  refine tm_iload_n X 1 dX5_heightOf_0 rfl rfl ?_
  refine tm_cl1 (fun r1 e2 => ?_)
  refine tm_callSi (As := [.int x1]) (rest := []) X (ctX5_isCast l D dA x1 r1 e2) (lw_S q1363 q1364 q122 q1365) cyX5_isCast rfl ⟨(Nat.le_of_ble_eq_true rfl), (Nat.le_of_ble_eq_true rfl)⟩ (Nat.le_of_ble_eq_true rfl) dX5_heightOf_1 ⟨Nat.le_of_ble_eq_true rfl, Nat.le_of_ble_eq_true rfl⟩ rfl ?_
  refine tm_let (fun k => ∀ (s3 : Int32), TM G r (k s3) (wM ad dA h) 0 0 29 [] [.int s3]) ?_ (fun k29 hk29 => ?_)
  · intro s3
    exact tm_retI hRet dX5_heightOf_29
  · skip
    refine tm_let (fun k => TM G r k (wM ad dA h) 0 0 28 [] []) ?_ (fun k28 hk28 => ?_)
    · skip
      refine tm_iconst X (-1 : Int32) dX5_heightOf_28 (by decide) ?_
      exact hk29 (-1 : Int32)
    · skip
      refine tm_if_eq X 28 dX5_heightOf_4 rfl ?_ ?_
      · skip
        refine tm_lv X [] rfl ?_
        exact hk28
      · skip
        refine tm_iload_n X 2 dX5_heightOf_7 rfl rfl ?_
        refine tm_cl1 (fun r4 e5 => ?_)
        refine tm_callSi (As := [.int x2]) (rest := []) X (ctX5_isPlace l D dA x2 r4 e5) (lw_S q1369 q1370 q122 q1371) cyX5_isPlace rfl ⟨(Nat.le_of_ble_eq_true rfl), (Nat.le_of_ble_eq_true rfl)⟩ (Nat.le_of_ble_eq_true rfl) dX5_heightOf_8 ⟨Nat.le_of_ble_eq_true rfl, Nat.le_of_ble_eq_true rfl⟩ rfl ?_
        refine tm_if_eq X 28 dX5_heightOf_11 rfl ?_ ?_
        · skip
          refine tm_lv X [] rfl ?_
          exact hk28
        · skip
          refine tm_aload_n X 0 dX5_heightOf_14 rfl rfl ?_
          refine tm_getR X (frM_300_0 ad dA h) in_X5 rfl (Nat.le_of_ble_eq_true rfl) q1187 rfl dX5_heightOf_15 ?_
          refine tm_bipush X (48 : Int32) dX5_heightOf_18 (by decide) ?_
          refine tm_iload_n X 1 dX5_heightOf_20 rfl rfl ?_
          refine tm_imul X dX5_heightOf_21 ?_
          refine tm_iload_n X 2 dX5_heightOf_22 rfl rfl ?_
          refine tm_iadd X dX5_heightOf_23 ?_
          refine tm_nmI (fun v6 => ?_)
          refine tm_iaload X (arM_200 ad dA) dX5_heightOf_24 ?_
          refine tm_goto X 29 dX5_heightOf_25 rfl ?_
          refine tm_lv X [] rfl ?_
          exact hk29 (h 200 v6.toNatClampNeg)
def mX5_keepOff (h : Hp) (x1 : Int32) (x2 : Int32) : Option (Int32 × Hp) :=
cl1 (mX5_isPlace x1) (fun r1 =>
if r1 = 0 then (
bz (0 : Int32) (some ((0 : Int32), h))) else (
ck x1 48 (nm (u2 h 202 x1.toNatClampNeg (vp_nar .boolean x2)) (fun h3 =>
bz (1 : Int32) (some ((1 : Int32), h3))))))
theorem cyX5_keepOff : Callee yX5_keepOff 2 := by unfold Callee; decide +kernel
set_option maxHeartbeats 4000000 in
theorem ctX5_keepOff (l : Launch) (D : va_G) (ad : Nat → Nat) (dA : Nat → ClassId) (h : Hp) (x1 : Int32) (x2 : Int32) (r : Int32) (h' : Hp) (hm : mX5_keepOff h x1 x2 = some (r, h')) : CT l yX5_keepOff cX5_keepOff 3 (some .boolean) D dA 2 42 0 0 (wM ad dA h) [.ref (ad 300), .int x1, .int x2] (some (.int r)) (wM ad dA h') := by
  refine ct_open (by decide) (Nat.le_of_ble_eq_true rfl) ?_
  intro G X hI hZ hV hR
  have hRet := fun hv => hZ rfl r hv rfl
  refine (show TM G (r, h') (mX5_keepOff h x1 x2) (wM ad dA h) 0 0 0 [(0, .ref (ad 300)), (1, .int x1), (2, .int x2)] [] from ?_) hm
  clear hm hI hZ hV hR
  unfold mX5_keepOff
  refine tm_iload_n X 1 dX5_keepOff_0 rfl rfl ?_
  refine tm_cl1 (fun r1 e2 => ?_)
  refine tm_callSi (As := [.int x1]) (rest := []) X (ctX5_isPlace l D dA x1 r1 e2) (lw_S q1369 q1370 q122 q1371) cyX5_isPlace rfl ⟨(Nat.le_of_ble_eq_true rfl), (Nat.le_of_ble_eq_true rfl)⟩ (Nat.le_of_ble_eq_true rfl) dX5_keepOff_1 ⟨Nat.le_of_ble_eq_true rfl, Nat.le_of_ble_eq_true rfl⟩ rfl ?_
  refine tm_if_ne X 9 dX5_keepOff_4 rfl ?_ ?_
  · skip
    refine tm_aload_n X 0 dX5_keepOff_9 rfl rfl ?_
    refine tm_getR X (frM_300_2 ad dA h) in_X5 rfl (Nat.le_of_ble_eq_true rfl) q1189 rfl dX5_keepOff_10 ?_
    refine tm_iload_n X 1 dX5_keepOff_13 rfl rfl ?_
    refine tm_iload_n X 2 dX5_keepOff_14 rfl rfl ?_
    refine tm_bastoreZ X (arM_202 ad dA) dX5_keepOff_15 (fun h3 => ?_)
    refine tm_iconst X (1 : Int32) dX5_keepOff_16 (by decide) ?_
    exact tm_retZH (wf := wM ad dA) hRet dX5_keepOff_17
  · skip
    refine tm_iconst X (0 : Int32) dX5_keepOff_7 (by decide) ?_
    exact tm_retZH (wf := wM ad dA) hRet dX5_keepOff_8
def mX5_types (h : Hp) (x1 : Int32) : Option (Hp) :=
fx FU (fun _ _ => none) (fun k2 (x2_1 : Int32) (h2 : Hp) =>
if x2_1 < 0 then (
some h2) else (
ck (h2 300 6) 260 (nm (u2 h2 205 (h2 300 6).toNatClampNeg (vp_nar .byte ((x1 >>> (((8 : Int32) * x2_1) &&& 31)).toInt8.toInt32))) (fun h3 =>
nm (u2 h3 300 6 ((h3 300 6) + (1 : Int32))) (fun h4 =>
k2 (x2_1 + (-1 : Int32)) h4))))) (3 : Int32) h
theorem cyX5_types : Callee yX5_types 1 := by unfold Callee; decide +kernel
set_option maxHeartbeats 4000000 in
theorem ctX5_types (l : Launch) (D : va_G) (ad : Nat → Nat) (dA : Nat → ClassId) (h : Hp) (x1 : Int32) (h' : Hp) (hm : mX5_types h x1 = some h') : CT l yX5_types cX5_types 3 none D dA 0 0 0 0 (wM ad dA h) [.ref (ad 300), .int x1] none (wM ad dA h') := by
  refine ct_open (by decide) (Nat.le_of_ble_eq_true rfl) ?_
  intro G X hI hZ hV hR
  have hRet := hV rfl rfl
  refine (show TM G h' (mX5_types h x1) (wM ad dA h) 0 0 0 [(0, .ref (ad 300)), (1, .int x1)] [] from ?_) hm
  clear hm hI hZ hV hR
  unfold mX5_types
  refine tm_iconst X (3 : Int32) dX5_types_0 (by decide) ?_
  refine tm_istore_n X [(2, .int (3 : Int32)), (0, .ref (ad 300)), (1, .int x1)] dX5_types_1 rfl (Nat.le_of_ble_eq_true rfl) rfl ?_
  refine tm_lv X [1, 2, 0] rfl ?_
  refine fx_P (fun (k : Int32 → Hp → Option (Hp)) => ∀ (x2_1 : Int32) (h2 : Hp), TM G h' (k x2_1 h2) (wM ad dA h2) 0 0 2 [(0, .ref (ad 300)), (1, .int x1), (2, .int x2_1)] []) (fun _ _ => tm_none) (fun k2 hk2 x2_1 h2 => ?_) FU (3 : Int32) h
  refine tm_iload_n X 2 dX5_types_2 rfl rfl ?_
  refine tm_if_lt X 38 dX5_types_3 rfl ?_ ?_
  · skip
    exact tm_retV (wf := wM ad dA) hRet dX5_types_38
  · skip
    refine tm_aload_n X 0 dX5_types_6 rfl rfl ?_
    refine tm_getR X (frM_300_5 ad dA h2) in_X5 rfl (Nat.le_of_ble_eq_true rfl) q1192 rfl dX5_types_7 ?_
    refine tm_aload_n X 0 dX5_types_10 rfl rfl ?_
    refine tm_getI X (fiM_300_6 ad dA) in_X5 rfl (Nat.le_of_ble_eq_true rfl) q1193 rfl dX5_types_11 ?_
    refine tm_iload_n X 1 dX5_types_14 rfl rfl ?_
    refine tm_bipush X (8 : Int32) dX5_types_15 (by decide) ?_
    refine tm_iload_n X 2 dX5_types_17 rfl rfl ?_
    refine tm_imul X dX5_types_18 ?_
    refine tm_ishr X dX5_types_19 ?_
    refine tm_i2b X dX5_types_20 ?_
    refine tm_bastoreB X (arM_205 ad dA) dX5_types_21 (fun h3 => ?_)
    refine tm_aload_n X 0 dX5_types_22 rfl rfl ?_
    refine tm_aload_n X 0 dX5_types_23 rfl rfl ?_
    refine tm_getI X (fiM_300_6 ad dA) in_X5 rfl (Nat.le_of_ble_eq_true rfl) q1193 rfl dX5_types_24 ?_
    refine tm_iconst X (1 : Int32) dX5_types_27 (by decide) ?_
    refine tm_iadd X dX5_types_28 ?_
    refine tm_putI X (fiM_300_6 ad dA) in_X5 rfl (Nat.le_of_ble_eq_true rfl) tyX5 tyX5_ok nmX5 rfl rfl q1193 rfl dX5_types_29 (fun h4 => ?_)
    refine tm_iinc (v := (-1 : Int32)) X 2 [(2, .int (x2_1 + (-1 : Int32))), (0, .ref (ad 300)), (1, .int x1)] dX5_types_32 rfl (by decide) (Nat.le_of_ble_eq_true rfl) rfl ?_
    refine tm_goto X 2 dX5_types_35 rfl ?_
    refine tm_lv X [1, 2, 0] rfl ?_
    exact hk2 (x2_1 + (-1 : Int32)) h4
def mX5_feed (h : Hp) (x1 : Int32) (x2 : Int32) (x3 : Int32) (x4 : Int32) (x5 : Int32) : Option (Int32 × Hp) :=
if ((h 300 6) + (20 : Int32)) ≤ (260 : Int32) then (
cl1 (mX5_types h x1) (fun h2 =>
cl1 (mX5_types h2 x2) (fun h4 =>
cl1 (mX5_types h4 x3) (fun h6 =>
cl1 (mX5_types h6 x4) (fun h8 =>
cl1 (mX5_types h8 x5) (fun h10 =>
some ((h10 300 6), h10))))))) else (
some ((-1 : Int32), h))
theorem cyX5_feed : Callee yX5_feed 5 := by unfold Callee; decide +kernel
set_option maxHeartbeats 4000000 in
theorem ctX5_feed (l : Launch) (D : va_G) (ad : Nat → Nat) (dA : Nat → ClassId) (h : Hp) (x1 : Int32) (x2 : Int32) (x3 : Int32) (x4 : Int32) (x5 : Int32) (r : Int32) (h' : Hp) (hm : mX5_feed h x1 x2 x3 x4 x5 = some (r, h')) : CT l yX5_feed cX5_feed 6 (some .int) D dA 1 22 0 0 (wM ad dA h) [.ref (ad 300), .int x1, .int x2, .int x3, .int x4, .int x5] (some (.int r)) (wM ad dA h') := by
  refine ct_open (by decide) (Nat.le_of_ble_eq_true rfl) ?_
  intro G X hI hZ hV hR
  have hRet := hI rfl r rfl
  refine (show TM G (r, h') (mX5_feed h x1 x2 x3 x4 x5) (wM ad dA h) 0 0 0 [(0, .ref (ad 300)), (1, .int x1), (2, .int x2), (3, .int x3), (4, .int x4), (5, .int x5)] [] from ?_) hm
  clear hm hI hZ hV hR
  unfold mX5_feed
  refine tm_aload_n X 0 dX5_feed_0 rfl rfl ?_
  refine tm_getI X (fiM_300_6 ad dA) in_X5 rfl (Nat.le_of_ble_eq_true rfl) q1193 rfl dX5_feed_1 ?_
  refine tm_bipush X (20 : Int32) dX5_feed_4 (by decide) ?_
  refine tm_iadd X dX5_feed_6 ?_
  refine tm_sipush X (260 : Int32) dX5_feed_7 (by decide) ?_
  refine tm_ic_le X 15 dX5_feed_10 rfl ?_ ?_
  · skip
    refine tm_aload_n X 0 dX5_feed_15 rfl rfl ?_
    refine tm_iload_n X 1 dX5_feed_16 rfl rfl ?_
    refine tm_cl1 (fun h2 e1 => ?_)
    refine tm_callVv (As := [.int x1]) (rest := []) (q0 := 0) X (ctX5_types l D ad dA h x1 h2 e1) (lw_V q1384 q1386 qs49 q122 q1387) cyX5_types rfl rfl rfl ⟨(Nat.le_of_ble_eq_true rfl), (Nat.le_of_ble_eq_true rfl)⟩ (Nat.le_of_ble_eq_true rfl) dX5_feed_17 ⟨Nat.le_of_ble_eq_true rfl, Nat.le_of_ble_eq_true rfl⟩ rfl ?_
    refine tm_aload_n X 0 dX5_feed_20 rfl rfl ?_
    refine tm_iload_n X 2 dX5_feed_21 rfl rfl ?_
    refine tm_cl1 (fun h4 e3 => ?_)
    refine tm_callVv (As := [.int x2]) (rest := []) (q0 := 0) X (ctX5_types l D ad dA h2 x2 h4 e3) (lw_V q1384 q1386 qs49 q122 q1387) cyX5_types rfl rfl rfl ⟨(Nat.le_of_ble_eq_true rfl), (Nat.le_of_ble_eq_true rfl)⟩ (Nat.le_of_ble_eq_true rfl) dX5_feed_22 ⟨Nat.le_of_ble_eq_true rfl, Nat.le_of_ble_eq_true rfl⟩ rfl ?_
    refine tm_aload_n X 0 dX5_feed_25 rfl rfl ?_
    refine tm_iload_n X 3 dX5_feed_26 rfl rfl ?_
    refine tm_cl1 (fun h6 e5 => ?_)
    refine tm_callVv (As := [.int x3]) (rest := []) (q0 := 0) X (ctX5_types l D ad dA h4 x3 h6 e5) (lw_V q1384 q1386 qs49 q122 q1387) cyX5_types rfl rfl rfl ⟨(Nat.le_of_ble_eq_true rfl), (Nat.le_of_ble_eq_true rfl)⟩ (Nat.le_of_ble_eq_true rfl) dX5_feed_27 ⟨Nat.le_of_ble_eq_true rfl, Nat.le_of_ble_eq_true rfl⟩ rfl ?_
    refine tm_aload_n X 0 dX5_feed_30 rfl rfl ?_
    refine tm_iload X 4 dX5_feed_31 rfl ?_
    refine tm_cl1 (fun h8 e7 => ?_)
    refine tm_callVv (As := [.int x4]) (rest := []) (q0 := 0) X (ctX5_types l D ad dA h6 x4 h8 e7) (lw_V q1384 q1386 qs49 q122 q1387) cyX5_types rfl rfl rfl ⟨(Nat.le_of_ble_eq_true rfl), (Nat.le_of_ble_eq_true rfl)⟩ (Nat.le_of_ble_eq_true rfl) dX5_feed_33 ⟨Nat.le_of_ble_eq_true rfl, Nat.le_of_ble_eq_true rfl⟩ rfl ?_
    refine tm_aload_n X 0 dX5_feed_36 rfl rfl ?_
    refine tm_iload X 5 dX5_feed_37 rfl ?_
    refine tm_cl1 (fun h10 e9 => ?_)
    refine tm_callVv (As := [.int x5]) (rest := []) (q0 := 0) X (ctX5_types l D ad dA h8 x5 h10 e9) (lw_V q1384 q1386 qs49 q122 q1387) cyX5_types rfl rfl rfl ⟨(Nat.le_of_ble_eq_true rfl), (Nat.le_of_ble_eq_true rfl)⟩ (Nat.le_of_ble_eq_true rfl) dX5_feed_39 ⟨Nat.le_of_ble_eq_true rfl, Nat.le_of_ble_eq_true rfl⟩ rfl ?_
    refine tm_aload_n X 0 dX5_feed_42 rfl rfl ?_
    refine tm_getI X (fiM_300_6 ad dA) in_X5 rfl (Nat.le_of_ble_eq_true rfl) q1193 rfl dX5_feed_43 ?_
    exact tm_retIH (wf := wM ad dA) hRet dX5_feed_46
  · skip
    refine tm_iconst X (-1 : Int32) dX5_feed_13 (by decide) ?_
    exact tm_retIH (wf := wM ad dA) hRet dX5_feed_14
def mX5_beginsText (h : Hp) (x1 : Int32) : Option (Hp) :=
nm (u2 h 300 7 (0 : Int32)) (fun h1 =>
nm (u2 h1 300 8 x1) (fun h2 =>
nm (u2 h2 300 12 (0 : Int32)) (fun h3 =>
nm (u2 h3 300 14 (0 : Int32)) (fun h4 =>
some h4))))
theorem cyX5_beginsText : Callee yX5_beginsText 1 := by unfold Callee; decide +kernel
set_option maxHeartbeats 4000000 in
theorem ctX5_beginsText (l : Launch) (D : va_G) (ad : Nat → Nat) (dA : Nat → ClassId) (h : Hp) (x1 : Int32) (h' : Hp) (hm : mX5_beginsText h x1 = some h') : CT l yX5_beginsText cX5_beginsText 2 none D dA 0 0 0 0 (wM ad dA h) [.ref (ad 300), .int x1] none (wM ad dA h') := by
  refine ct_open (by decide) (Nat.le_of_ble_eq_true rfl) ?_
  intro G X hI hZ hV hR
  have hRet := hV rfl rfl
  refine (show TM G h' (mX5_beginsText h x1) (wM ad dA h) 0 0 0 [(0, .ref (ad 300)), (1, .int x1)] [] from ?_) hm
  clear hm hI hZ hV hR
  unfold mX5_beginsText
  refine tm_aload_n X 0 dX5_beginsText_0 rfl rfl ?_
  refine tm_iconst X (0 : Int32) dX5_beginsText_1 (by decide) ?_
  refine tm_putI X (fiM_300_7 ad dA) in_X5 rfl (Nat.le_of_ble_eq_true rfl) tyX5 tyX5_ok nmX5 rfl rfl q1194 rfl dX5_beginsText_2 (fun h1 => ?_)
  refine tm_aload_n X 0 dX5_beginsText_5 rfl rfl ?_
  refine tm_iload_n X 1 dX5_beginsText_6 rfl rfl ?_
  refine tm_putI X (fiM_300_8 ad dA) in_X5 rfl (Nat.le_of_ble_eq_true rfl) tyX5 tyX5_ok nmX5 rfl rfl q1195 rfl dX5_beginsText_7 (fun h2 => ?_)
  refine tm_aload_n X 0 dX5_beginsText_10 rfl rfl ?_
  refine tm_iconst X (0 : Int32) dX5_beginsText_11 (by decide) ?_
  refine tm_putI X (fiM_300_12 ad dA) in_X5 rfl (Nat.le_of_ble_eq_true rfl) tyX5 tyX5_ok nmX5 rfl rfl q1199 rfl dX5_beginsText_12 (fun h3 => ?_)
  refine tm_aload_n X 0 dX5_beginsText_15 rfl rfl ?_
  refine tm_iconst X (0 : Int32) dX5_beginsText_16 (by decide) ?_
  refine tm_putI X (fiM_300_14 ad dA) in_X5 rfl (Nat.le_of_ble_eq_true rfl) tyX5 tyX5_ok nmX5 rfl rfl q1201 rfl dX5_beginsText_17 (fun h4 => ?_)
  exact tm_retV (wf := wM ad dA) hRet dX5_beginsText_20
def mX5_here (h : Hp)  : Option (Int32) :=
nm (fun (s1 : Int32) =>
some s1) (fun k28 =>
if (h 300 8) ≤ (h 300 7) then (
k28 (-1 : Int32)) else (
nm ((h 300 7)) (fun v2 =>
ck v2 260 (
k28 ((h 205 v2.toNatClampNeg) &&& (255 : Int32))))))
theorem cyX5_here : Callee yX5_here 0 := by unfold Callee; decide +kernel
set_option maxHeartbeats 4000000 in
theorem ctX5_here (l : Launch) (D : va_G) (ad : Nat → Nat) (dA : Nat → ClassId) (h : Hp)  (r : Int32) (hm : mX5_here h = some r) : CT l yX5_here cX5_here 1 (some .int) D dA 0 0 0 0 (wM ad dA h) [.ref (ad 300)] (some (.int r)) (wM ad dA h) := by
  refine ct_open (by decide) (Nat.le_of_ble_eq_true rfl) ?_
  intro G X hI hZ hV hR
  have hRet := hI rfl r rfl
  refine (show TM G r (mX5_here h) (wM ad dA h) 0 0 0 [(0, .ref (ad 300))] [] from ?_) hm
  clear hm hI hZ hV hR
  unfold mX5_here
  refine tm_aload_n X 0 dX5_here_0 rfl rfl ?_
  refine tm_getI X (fiM_300_7 ad dA) in_X5 rfl (Nat.le_of_ble_eq_true rfl) q1194 rfl dX5_here_1 ?_
  refine tm_aload_n X 0 dX5_here_4 rfl rfl ?_
  refine tm_getI X (fiM_300_8 ad dA) in_X5 rfl (Nat.le_of_ble_eq_true rfl) q1195 rfl dX5_here_5 ?_
  refine tm_let (fun k => ∀ (s1 : Int32), TM G r (k s1) (wM ad dA h) 0 0 28 [] [.int s1]) ?_ (fun k28 hk28 => ?_)
  · intro s1
    exact tm_retI hRet dX5_here_28
  · skip
    refine tm_ic_ge X 27 dX5_here_8 rfl ?_ ?_
    · skip
      refine tm_iconst X (-1 : Int32) dX5_here_27 (by decide) ?_
      refine tm_lv X [] rfl ?_
      exact hk28 (-1 : Int32)
    · skip
      refine tm_aload_n X 0 dX5_here_11 rfl rfl ?_
      refine tm_getR X (frM_300_5 ad dA h) in_X5 rfl (Nat.le_of_ble_eq_true rfl) q1192 rfl dX5_here_12 ?_
      refine tm_aload_n X 0 dX5_here_15 rfl rfl ?_
      refine tm_getI X (fiM_300_7 ad dA) in_X5 rfl (Nat.le_of_ble_eq_true rfl) q1194 rfl dX5_here_16 ?_
      refine tm_nmI (fun v2 => ?_)
      refine tm_baloadB X (arM_205 ad dA) dX5_here_19 ?_
      refine tm_sipush X (255 : Int32) dX5_here_20 (by decide) ?_
      refine tm_iand X dX5_here_23 ?_
      refine tm_goto X 28 dX5_here_24 rfl ?_
      refine tm_lv X [] rfl ?_
      exact hk28 ((h 205 v2.toNatClampNeg) &&& (255 : Int32))
def mX5_wrongAt (h : Hp) (x1 : Int32) (x2 : Int32) : Option (Int32 × Hp) :=
nm (u2 h 300 9 (((-1000 : Int32) * x1) - x2)) (fun h1 =>
bz (0 : Int32) (some ((0 : Int32), h1)))
theorem cyX5_wrongAt : Callee yX5_wrongAt 2 := by unfold Callee; decide +kernel
set_option maxHeartbeats 4000000 in
theorem ctX5_wrongAt (l : Launch) (D : va_G) (ad : Nat → Nat) (dA : Nat → ClassId) (h : Hp) (x1 : Int32) (x2 : Int32) (r : Int32) (h' : Hp) (hm : mX5_wrongAt h x1 x2 = some (r, h')) : CT l yX5_wrongAt cX5_wrongAt 3 (some .boolean) D dA 0 0 0 0 (wM ad dA h) [.ref (ad 300), .int x1, .int x2] (some (.int r)) (wM ad dA h') := by
  refine ct_open (by decide) (Nat.le_of_ble_eq_true rfl) ?_
  intro G X hI hZ hV hR
  have hRet := fun hv => hZ rfl r hv rfl
  refine (show TM G (r, h') (mX5_wrongAt h x1 x2) (wM ad dA h) 0 0 0 [(0, .ref (ad 300)), (1, .int x1), (2, .int x2)] [] from ?_) hm
  clear hm hI hZ hV hR
  unfold mX5_wrongAt
  refine tm_aload_n X 0 dX5_wrongAt_0 rfl rfl ?_
  refine tm_sipush X (-1000 : Int32) dX5_wrongAt_1 (by decide) ?_
  refine tm_iload_n X 1 dX5_wrongAt_4 rfl rfl ?_
  refine tm_imul X dX5_wrongAt_5 ?_
  refine tm_iload_n X 2 dX5_wrongAt_6 rfl rfl ?_
  refine tm_isub X dX5_wrongAt_7 ?_
  refine tm_putI X (fiM_300_9 ad dA) in_X5 rfl (Nat.le_of_ble_eq_true rfl) tyX5 tyX5_ok nmX5 rfl rfl q1196 rfl dX5_wrongAt_8 (fun h1 => ?_)
  refine tm_iconst X (0 : Int32) dX5_wrongAt_11 (by decide) ?_
  exact tm_retZH (wf := wM ad dA) hRet dX5_wrongAt_12
def mX5_opens (h : Hp) (x1 : Int32) : Option (Int32 × Hp) :=
if (h 300 11) = (6 : Int32) then (
cl2 (mX5_wrongAt h (5 : Int32) (h 300 7)) (fun r6 h7 =>
bz r6 (some (r6, h7)))) else (
nm (u2 h 300 11 ((h 300 11) + (1 : Int32))) (fun h1 =>
ck (h1 300 13) 260 (nm (u2 h1 217 (h1 300 13).toNatClampNeg ((1048576 : Int32) * x1)) (fun h2 =>
nm (u2 h2 300 13 ((h2 300 13) + (1 : Int32))) (fun h3 =>
nm (u2 h3 300 7 ((h3 300 7) + (1 : Int32))) (fun h4 =>
bz (1 : Int32) (some ((1 : Int32), h4))))))))
theorem cyX5_opens : Callee yX5_opens 1 := by unfold Callee; decide +kernel
set_option maxHeartbeats 4000000 in
theorem ctX5_opens (l : Launch) (D : va_G) (ad : Nat → Nat) (dA : Nat → ClassId) (h : Hp) (x1 : Int32) (r : Int32) (h' : Hp) (hm : mX5_opens h x1 = some (r, h')) : CT l yX5_opens cX5_opens 2 (some .boolean) D dA 1 22 0 0 (wM ad dA h) [.ref (ad 300), .int x1] (some (.int r)) (wM ad dA h') := by
  refine ct_open (by decide) (Nat.le_of_ble_eq_true rfl) ?_
  intro G X hI hZ hV hR
  have hRet := fun hv => hZ rfl r hv rfl
  refine (show TM G (r, h') (mX5_opens h x1) (wM ad dA h) 0 0 0 [(0, .ref (ad 300)), (1, .int x1)] [] from ?_) hm
  clear hm hI hZ hV hR
  unfold mX5_opens
  refine tm_aload_n X 0 dX5_opens_0 rfl rfl ?_
  refine tm_getI X (fiM_300_11 ad dA) in_X5 rfl (Nat.le_of_ble_eq_true rfl) q1198 rfl dX5_opens_1 ?_
  refine tm_bipush X (6 : Int32) dX5_opens_4 (by decide) ?_
  refine tm_ic_ne X 19 dX5_opens_6 rfl ?_ ?_
  · skip
    refine tm_aload_n X 0 dX5_opens_19 rfl rfl ?_
    refine tm_aload_n X 0 dX5_opens_20 rfl rfl ?_
    refine tm_getI X (fiM_300_11 ad dA) in_X5 rfl (Nat.le_of_ble_eq_true rfl) q1198 rfl dX5_opens_21 ?_
    refine tm_iconst X (1 : Int32) dX5_opens_24 (by decide) ?_
    refine tm_iadd X dX5_opens_25 ?_
    refine tm_putI X (fiM_300_11 ad dA) in_X5 rfl (Nat.le_of_ble_eq_true rfl) tyX5 tyX5_ok nmX5 rfl rfl q1198 rfl dX5_opens_26 (fun h1 => ?_)
    refine tm_aload_n X 0 dX5_opens_29 rfl rfl ?_
    refine tm_getR X (frM_300_17 ad dA h1) in_X5 rfl (Nat.le_of_ble_eq_true rfl) q1204 rfl dX5_opens_30 ?_
    refine tm_aload_n X 0 dX5_opens_33 rfl rfl ?_
    refine tm_getI X (fiM_300_13 ad dA) in_X5 rfl (Nat.le_of_ble_eq_true rfl) q1200 rfl dX5_opens_34 ?_
    refine tm_ldc X (1048576 : Int32) q1420 dX5_opens_37 ?_
    refine tm_iload_n X 1 dX5_opens_39 rfl rfl ?_
    refine tm_imul X dX5_opens_40 ?_
    refine tm_iastore X (arM_217 ad dA) dX5_opens_41 (fun h2 => ?_)
    refine tm_aload_n X 0 dX5_opens_42 rfl rfl ?_
    refine tm_aload_n X 0 dX5_opens_43 rfl rfl ?_
    refine tm_getI X (fiM_300_13 ad dA) in_X5 rfl (Nat.le_of_ble_eq_true rfl) q1200 rfl dX5_opens_44 ?_
    refine tm_iconst X (1 : Int32) dX5_opens_47 (by decide) ?_
    refine tm_iadd X dX5_opens_48 ?_
    refine tm_putI X (fiM_300_13 ad dA) in_X5 rfl (Nat.le_of_ble_eq_true rfl) tyX5 tyX5_ok nmX5 rfl rfl q1200 rfl dX5_opens_49 (fun h3 => ?_)
    refine tm_aload_n X 0 dX5_opens_52 rfl rfl ?_
    refine tm_aload_n X 0 dX5_opens_53 rfl rfl ?_
    refine tm_getI X (fiM_300_7 ad dA) in_X5 rfl (Nat.le_of_ble_eq_true rfl) q1194 rfl dX5_opens_54 ?_
    refine tm_iconst X (1 : Int32) dX5_opens_57 (by decide) ?_
    refine tm_iadd X dX5_opens_58 ?_
    refine tm_putI X (fiM_300_7 ad dA) in_X5 rfl (Nat.le_of_ble_eq_true rfl) tyX5 tyX5_ok nmX5 rfl rfl q1194 rfl dX5_opens_59 (fun h4 => ?_)
    refine tm_iconst X (1 : Int32) dX5_opens_62 (by decide) ?_
    exact tm_retZH (wf := wM ad dA) hRet dX5_opens_63
  · skip
    refine tm_aload_n X 0 dX5_opens_9 rfl rfl ?_
    refine tm_iconst X (5 : Int32) dX5_opens_10 (by decide) ?_
    refine tm_aload_n X 0 dX5_opens_11 rfl rfl ?_
    refine tm_getI X (fiM_300_7 ad dA) in_X5 rfl (Nat.le_of_ble_eq_true rfl) q1194 rfl dX5_opens_12 ?_
    refine tm_cl2 (fun r6 h7 e5 => ?_)
    refine tm_callVi (As := [.int (5 : Int32), .int (h 300 7)]) (rest := []) (q0 := 0) X (ctX5_wrongAt l D ad dA h (5 : Int32) (h 300 7) r6 h7 e5) (lw_V q1404 q1406 qs53 q122 q1407) cyX5_wrongAt rfl rfl rfl ⟨(Nat.le_of_ble_eq_true rfl), (Nat.le_of_ble_eq_true rfl)⟩ (Nat.le_of_ble_eq_true rfl) dX5_opens_15 ⟨Nat.le_of_ble_eq_true rfl, Nat.le_of_ble_eq_true rfl⟩ rfl ?_
    exact tm_retZH (wf := wM ad dA) hRet dX5_opens_18
def mX5_isDigit (h : Hp)  : Option (Int32) :=
cl1 (mX5_here h) (fun r2 =>
nm (fun (s3 : Int32) =>
bz s3 (some s3)) (fun k23 =>
nm (
k23 (0 : Int32)) (fun k22 =>
if r2 < (48 : Int32) then (
k22) else (
cl1 (mX5_here h) (fun r5 =>
if (57 : Int32) < r5 then (
k22) else (
k23 (1 : Int32)))))))
theorem cyX5_isDigit : Callee yX5_isDigit 0 := by unfold Callee; decide +kernel
set_option maxHeartbeats 4000000 in
theorem ctX5_isDigit (l : Launch) (D : va_G) (ad : Nat → Nat) (dA : Nat → ClassId) (h : Hp)  (r : Int32) (hm : mX5_isDigit h = some r) : CT l yX5_isDigit cX5_isDigit 1 (some .boolean) D dA 1 20 0 0 (wM ad dA h) [.ref (ad 300)] (some (.int r)) (wM ad dA h) := by
  refine ct_open (by decide) (Nat.le_of_ble_eq_true rfl) ?_
  intro G X hI hZ hV hR
  have hRet := fun hv => hZ rfl r hv rfl
  refine (show TM G r (mX5_isDigit h) (wM ad dA h) 0 0 0 [(0, .ref (ad 300))] [] from ?_) hm
  clear hm hI hZ hV hR
  unfold mX5_isDigit
  refine tm_aload_n X 0 dX5_isDigit_0 rfl rfl ?_
  refine tm_cl1 (fun r2 e1 => ?_)
  refine tm_callVi (As := []) (rest := []) (q0 := 0) X (ctX5_here l D ad dA h r2 e1) (lw_V q1400 q1402 qs52 q122 q1403) cyX5_here rfl rfl rfl ⟨(Nat.le_of_ble_eq_true rfl), (Nat.le_of_ble_eq_true rfl)⟩ (Nat.le_of_ble_eq_true rfl) dX5_isDigit_1 ⟨Nat.le_of_ble_eq_true rfl, Nat.le_of_ble_eq_true rfl⟩ rfl ?_
  refine tm_bipush X (48 : Int32) dX5_isDigit_4 (by decide) ?_
  refine tm_let (fun k => ∀ (s3 : Int32), TM G r (k s3) (wM ad dA h) 0 0 23 [] [.int s3]) ?_ (fun k23 hk23 => ?_)
  · intro s3
    exact tm_retZ hRet dX5_isDigit_23
  · skip
    refine tm_let (fun k => TM G r k (wM ad dA h) 0 0 22 [] []) ?_ (fun k22 hk22 => ?_)
    · skip
      refine tm_iconst X (0 : Int32) dX5_isDigit_22 (by decide) ?_
      exact hk23 (0 : Int32)
    · skip
      refine tm_ic_lt X 22 dX5_isDigit_6 rfl ?_ ?_
      · skip
        refine tm_lv X [] rfl ?_
        exact hk22
      · skip
        refine tm_aload_n X 0 dX5_isDigit_9 rfl rfl ?_
        refine tm_cl1 (fun r5 e4 => ?_)
        refine tm_callVi (As := []) (rest := []) (q0 := 0) X (ctX5_here l D ad dA h r5 e4) (lw_V q1400 q1402 qs52 q122 q1403) cyX5_here rfl rfl rfl ⟨(Nat.le_of_ble_eq_true rfl), (Nat.le_of_ble_eq_true rfl)⟩ (Nat.le_of_ble_eq_true rfl) dX5_isDigit_10 ⟨Nat.le_of_ble_eq_true rfl, Nat.le_of_ble_eq_true rfl⟩ rfl ?_
        refine tm_bipush X (57 : Int32) dX5_isDigit_13 (by decide) ?_
        refine tm_ic_gt X 22 dX5_isDigit_15 rfl ?_ ?_
        · skip
          refine tm_lv X [] rfl ?_
          exact hk22
        · skip
          refine tm_iconst X (1 : Int32) dX5_isDigit_18 (by decide) ?_
          refine tm_goto X 23 dX5_isDigit_19 rfl ?_
          refine tm_lv X [] rfl ?_
          exact hk23 (1 : Int32)
def mX5_readsNumber (h : Hp)  : Option (Int32 × Hp) :=
nm ((h 300 7)) (fun v1 =>
nm (u2 h 300 10 (0 : Int32)) (fun h2 =>
fx FU (fun _ => none) (fun k10 (h3 : Hp) =>
cl1 (mX5_isDigit h3) (fun r5 =>
if r5 = 0 then (
bz (1 : Int32) (some ((1 : Int32), h3))) else (
if (h3 300 7) = (v1 + (5 : Int32)) then (
cl2 (mX5_wrongAt h3 (2 : Int32) (h3 300 7)) (fun r11 h12 =>
bz r11 (some (r11, h12)))) else (
cl1 (mX5_here h3) (fun r7 =>
nm (u2 h3 300 10 ((((10 : Int32) * (h3 300 10)) + r7) - (48 : Int32))) (fun h8 =>
nm (u2 h8 300 7 ((h8 300 7) + (1 : Int32))) (fun h9 =>
k10 h9))))))) h2))
theorem cyX5_readsNumber : Callee yX5_readsNumber 0 := by unfold Callee; decide +kernel
set_option maxHeartbeats 4000000 in
theorem ctX5_readsNumber (l : Launch) (D : va_G) (ad : Nat → Nat) (dA : Nat → ClassId) (h : Hp)  (r : Int32) (h' : Hp) (hm : mX5_readsNumber h = some (r, h')) : CT l yX5_readsNumber cX5_readsNumber 2 (some .boolean) D dA 2 40 0 0 (wM ad dA h) [.ref (ad 300)] (some (.int r)) (wM ad dA h') := by
  refine ct_open (by decide) (Nat.le_of_ble_eq_true rfl) ?_
  intro G X hI hZ hV hR
  have hRet := fun hv => hZ rfl r hv rfl
  refine (show TM G (r, h') (mX5_readsNumber h) (wM ad dA h) 0 0 0 [(0, .ref (ad 300))] [] from ?_) hm
  clear hm hI hZ hV hR
  unfold mX5_readsNumber
  refine tm_aload_n X 0 dX5_readsNumber_0 rfl rfl ?_
  refine tm_getI X (fiM_300_7 ad dA) in_X5 rfl (Nat.le_of_ble_eq_true rfl) q1194 rfl dX5_readsNumber_1 ?_
  refine tm_nmI (fun v1 => ?_)
  refine tm_istore_n X [(1, .int v1), (0, .ref (ad 300))] dX5_readsNumber_4 rfl (Nat.le_of_ble_eq_true rfl) rfl ?_
  refine tm_aload_n X 1 dX5_readsNumber_5 rfl rfl ?_
  refine tm_iconst X (0 : Int32) dX5_readsNumber_6 (by decide) ?_
  refine tm_putI X (fiM_300_10 ad dA) in_X5 rfl (Nat.le_of_ble_eq_true rfl) tyX5 tyX5_ok nmX5 rfl rfl q1197 rfl dX5_readsNumber_7 (fun h2 => ?_)
  refine tm_lv X [1, 0] rfl ?_
  refine fx_P (fun (k : Hp → Option (Int32 × Hp)) => ∀ (h3 : Hp), TM G (r, h') (k h3) (wM ad dA h3) 0 0 10 [(0, .ref (ad 300)), (1, .int v1)] []) (fun _ => tm_none) (fun k10 hk10 h3 => ?_) FU h2
  refine tm_aload_n X 0 dX5_readsNumber_10 rfl rfl ?_
  refine tm_cl1 (fun r5 e4 => ?_)
  refine tm_callVi (As := []) (rest := []) (q0 := 0) X (ctX5_isDigit l D ad dA h3 r5 e4) (lw_V q1421 q1423 qs57 q122 q1424) cyX5_isDigit rfl rfl rfl ⟨(Nat.le_of_ble_eq_true rfl), (Nat.le_of_ble_eq_true rfl)⟩ (Nat.le_of_ble_eq_true rfl) dX5_readsNumber_11 ⟨Nat.le_of_ble_eq_true rfl, Nat.le_of_ble_eq_true rfl⟩ rfl ?_
  refine tm_if_eq X 69 dX5_readsNumber_14 rfl ?_ ?_
  · skip
    refine tm_iconst X (1 : Int32) dX5_readsNumber_69 (by decide) ?_
    exact tm_retZH (wf := wM ad dA) hRet dX5_readsNumber_70
  · skip
    refine tm_aload_n X 0 dX5_readsNumber_17 rfl rfl ?_
    refine tm_getI X (fiM_300_7 ad dA) in_X5 rfl (Nat.le_of_ble_eq_true rfl) q1194 rfl dX5_readsNumber_18 ?_
    refine tm_iload_n X 1 dX5_readsNumber_21 rfl rfl ?_
    refine tm_iconst X (5 : Int32) dX5_readsNumber_22 (by decide) ?_
    refine tm_iadd X dX5_readsNumber_23 ?_
    refine tm_ic_ne X 37 dX5_readsNumber_24 rfl ?_ ?_
    · skip
      refine tm_aload_n X 0 dX5_readsNumber_37 rfl rfl ?_
      refine tm_bipush X (10 : Int32) dX5_readsNumber_38 (by decide) ?_
      refine tm_aload_n X 0 dX5_readsNumber_40 rfl rfl ?_
      refine tm_getI X (fiM_300_10 ad dA) in_X5 rfl (Nat.le_of_ble_eq_true rfl) q1197 rfl dX5_readsNumber_41 ?_
      refine tm_imul X dX5_readsNumber_44 ?_
      refine tm_aload_n X 0 dX5_readsNumber_45 rfl rfl ?_
      refine tm_cl1 (fun r7 e6 => ?_)
      refine tm_callVi (As := []) (rest := [.int ((10 : Int32) * (h3 300 10)), .ref (ad 300)]) (q0 := 0) X (ctX5_here l D ad dA h3 r7 e6) (lw_V q1400 q1402 qs52 q122 q1403) cyX5_here rfl rfl rfl ⟨(Nat.le_of_ble_eq_true rfl), (Nat.le_of_ble_eq_true rfl)⟩ (Nat.le_of_ble_eq_true rfl) dX5_readsNumber_46 ⟨Nat.le_of_ble_eq_true rfl, Nat.le_of_ble_eq_true rfl⟩ rfl ?_
      refine tm_iadd X dX5_readsNumber_49 ?_
      refine tm_bipush X (48 : Int32) dX5_readsNumber_50 (by decide) ?_
      refine tm_isub X dX5_readsNumber_52 ?_
      refine tm_putI X (fiM_300_10 ad dA) in_X5 rfl (Nat.le_of_ble_eq_true rfl) tyX5 tyX5_ok nmX5 rfl rfl q1197 rfl dX5_readsNumber_53 (fun h8 => ?_)
      refine tm_aload_n X 0 dX5_readsNumber_56 rfl rfl ?_
      refine tm_aload_n X 0 dX5_readsNumber_57 rfl rfl ?_
      refine tm_getI X (fiM_300_7 ad dA) in_X5 rfl (Nat.le_of_ble_eq_true rfl) q1194 rfl dX5_readsNumber_58 ?_
      refine tm_iconst X (1 : Int32) dX5_readsNumber_61 (by decide) ?_
      refine tm_iadd X dX5_readsNumber_62 ?_
      refine tm_putI X (fiM_300_7 ad dA) in_X5 rfl (Nat.le_of_ble_eq_true rfl) tyX5 tyX5_ok nmX5 rfl rfl q1194 rfl dX5_readsNumber_63 (fun h9 => ?_)
      refine tm_goto X 10 dX5_readsNumber_66 rfl ?_
      exact hk10 h9
    · skip
      refine tm_aload_n X 0 dX5_readsNumber_27 rfl rfl ?_
      refine tm_iconst X (2 : Int32) dX5_readsNumber_28 (by decide) ?_
      refine tm_aload_n X 0 dX5_readsNumber_29 rfl rfl ?_
      refine tm_getI X (fiM_300_7 ad dA) in_X5 rfl (Nat.le_of_ble_eq_true rfl) q1194 rfl dX5_readsNumber_30 ?_
      refine tm_cl2 (fun r11 h12 e10 => ?_)
      refine tm_callVi (As := [.int (2 : Int32), .int (h3 300 7)]) (rest := []) (q0 := 0) X (ctX5_wrongAt l D ad dA h3 (2 : Int32) (h3 300 7) r11 h12 e10) (lw_V q1404 q1406 qs53 q122 q1407) cyX5_wrongAt rfl rfl rfl ⟨(Nat.le_of_ble_eq_true rfl), (Nat.le_of_ble_eq_true rfl)⟩ (Nat.le_of_ble_eq_true rfl) dX5_readsNumber_33 ⟨Nat.le_of_ble_eq_true rfl, Nat.le_of_ble_eq_true rfl⟩ rfl ?_
      exact tm_retZH (wf := wM ad dA) hRet dX5_readsNumber_36
def mX5_notes (h : Hp) (x1 : Int32) (x2 : Int32) : Option (Hp) :=
ck (h 300 12) 260 (nm (u2 h 216 (h 300 12).toNatClampNeg (((1048576 : Int32) * x1) + x2)) (fun h1 =>
nm (u2 h1 300 12 ((h1 300 12) + (1 : Int32))) (fun h2 =>
some h2)))
theorem cyX5_notes : Callee yX5_notes 2 := by unfold Callee; decide +kernel
set_option maxHeartbeats 4000000 in
theorem ctX5_notes (l : Launch) (D : va_G) (ad : Nat → Nat) (dA : Nat → ClassId) (h : Hp) (x1 : Int32) (x2 : Int32) (h' : Hp) (hm : mX5_notes h x1 x2 = some h') : CT l yX5_notes cX5_notes 3 none D dA 0 0 0 0 (wM ad dA h) [.ref (ad 300), .int x1, .int x2] none (wM ad dA h') := by
  refine ct_open (by decide) (Nat.le_of_ble_eq_true rfl) ?_
  intro G X hI hZ hV hR
  have hRet := hV rfl rfl
  refine (show TM G h' (mX5_notes h x1 x2) (wM ad dA h) 0 0 0 [(0, .ref (ad 300)), (1, .int x1), (2, .int x2)] [] from ?_) hm
  clear hm hI hZ hV hR
  unfold mX5_notes
  refine tm_aload_n X 0 dX5_notes_0 rfl rfl ?_
  refine tm_getR X (frM_300_16 ad dA h) in_X5 rfl (Nat.le_of_ble_eq_true rfl) q1203 rfl dX5_notes_1 ?_
  refine tm_aload_n X 0 dX5_notes_4 rfl rfl ?_
  refine tm_getI X (fiM_300_12 ad dA) in_X5 rfl (Nat.le_of_ble_eq_true rfl) q1199 rfl dX5_notes_5 ?_
  refine tm_ldc X (1048576 : Int32) q1420 dX5_notes_8 ?_
  refine tm_iload_n X 1 dX5_notes_10 rfl rfl ?_
  refine tm_imul X dX5_notes_11 ?_
  refine tm_iload_n X 2 dX5_notes_12 rfl rfl ?_
  refine tm_iadd X dX5_notes_13 ?_
  refine tm_iastore X (arM_216 ad dA) dX5_notes_14 (fun h1 => ?_)
  refine tm_aload_n X 0 dX5_notes_15 rfl rfl ?_
  refine tm_aload_n X 0 dX5_notes_16 rfl rfl ?_
  refine tm_getI X (fiM_300_12 ad dA) in_X5 rfl (Nat.le_of_ble_eq_true rfl) q1199 rfl dX5_notes_17 ?_
  refine tm_iconst X (1 : Int32) dX5_notes_20 (by decide) ?_
  refine tm_iadd X dX5_notes_21 ?_
  refine tm_putI X (fiM_300_12 ad dA) in_X5 rfl (Nat.le_of_ble_eq_true rfl) tyX5 tyX5_ok nmX5 rfl rfl q1199 rfl dX5_notes_22 (fun h2 => ?_)
  exact tm_retV (wf := wM ad dA) hRet dX5_notes_25
def mX5_factOf (x0 : Int32) : Option (Int32) :=
if x0 = (97 : Int32) then (
some (4 : Int32)) else (
if x0 = (98 : Int32) then (
some (5 : Int32)) else (
if x0 = (99 : Int32) then (
some (2 : Int32)) else (
if x0 = (100 : Int32) then (
some (-1 : Int32)) else (
if x0 = (101 : Int32) then (
some (3 : Int32)) else (
if x0 = (102 : Int32) then (
some (-1 : Int32)) else (
if x0 = (103 : Int32) then (
some (-1 : Int32)) else (
if x0 = (104 : Int32) then (
some (6 : Int32)) else (
if x0 = (105 : Int32) then (
some (-1 : Int32)) else (
if x0 = (106 : Int32) then (
some (-1 : Int32)) else (
if x0 = (107 : Int32) then (
some (7 : Int32)) else (
if x0 = (108 : Int32) then (
some (1 : Int32)) else (
if x0 = (109 : Int32) then (
some (-1 : Int32)) else (
if x0 = (110 : Int32) then (
some (-1 : Int32)) else (
if x0 = (111 : Int32) then (
some (-1 : Int32)) else (
if x0 = (112 : Int32) then (
some (-1 : Int32)) else (
if x0 = (113 : Int32) then (
some (-1 : Int32)) else (
if x0 = (114 : Int32) then (
some (-1 : Int32)) else (
if x0 = (115 : Int32) then (
some (-1 : Int32)) else (
if x0 = (116 : Int32) then (
some (8 : Int32)) else (
if x0 = (117 : Int32) then (
some (0 : Int32)) else (
if x0 = (118 : Int32) then (
some (-1 : Int32)) else (
if x0 = (119 : Int32) then (
some (9 : Int32)) else (
some (-1 : Int32))))))))))))))))))))))))
theorem cyX5_factOf : Callee yX5_factOf 1 := by unfold Callee; decide +kernel
set_option maxHeartbeats 4000000 in
theorem ctX5_factOf (l : Launch) (D : va_G) (dA : Nat → ClassId) (x0 : Int32) (r : Int32) (hm : mX5_factOf x0 = some r) : CT l yX5_factOf cX5_factOf 1 (some .int) D dA 0 0 0 0 [] [.int x0] (some (.int r)) [] := by
  refine ct_open (by decide) (Nat.le_of_ble_eq_true rfl) ?_
  intro G X hI hZ hV hR
  have hRet := hI rfl r rfl
  refine (show TM G r (mX5_factOf x0) [] 0 0 0 [(0, .int x0)] [] from ?_) hm
  clear hm hI hZ hV hR
  unfold mX5_factOf
  refine tm_iload_n X 0 dX5_factOf_0 rfl rfl ?_
  refine tm_sw (j := 0) (97 : Int32) 116 X dX5_factOf_1 (by decide) (by decide) rfl rfl ?_ (fun hs1 => ?_)
  · skip
    refine tm_iconst X (4 : Int32) dX5_factOf_116 (by decide) ?_
    exact tm_retI hRet dX5_factOf_117
  refine tm_sw (j := 1) (98 : Int32) 118 X dX5_factOf_1 (by decide) (by decide) rfl rfl ?_ (fun hs2 => ?_)
  · skip
    refine tm_iconst X (5 : Int32) dX5_factOf_118 (by decide) ?_
    exact tm_retI hRet dX5_factOf_119
  refine tm_sw (j := 2) (99 : Int32) 112 X dX5_factOf_1 (by decide) (by decide) rfl rfl ?_ (fun hs3 => ?_)
  · skip
    refine tm_iconst X (2 : Int32) dX5_factOf_112 (by decide) ?_
    exact tm_retI hRet dX5_factOf_113
  refine tm_sw (j := 3) (100 : Int32) 132 X dX5_factOf_1 (by decide) (by decide) rfl rfl ?_ (fun hs4 => ?_)
  · skip
    refine tm_iconst X (-1 : Int32) dX5_factOf_132 (by decide) ?_
    exact tm_retI hRet dX5_factOf_133
  refine tm_sw (j := 4) (101 : Int32) 114 X dX5_factOf_1 (by decide) (by decide) rfl rfl ?_ (fun hs5 => ?_)
  · skip
    refine tm_iconst X (3 : Int32) dX5_factOf_114 (by decide) ?_
    exact tm_retI hRet dX5_factOf_115
  refine tm_sw (j := 5) (102 : Int32) 132 X dX5_factOf_1 (by decide) (by decide) rfl rfl ?_ (fun hs6 => ?_)
  · skip
    refine tm_iconst X (-1 : Int32) dX5_factOf_132 (by decide) ?_
    exact tm_retI hRet dX5_factOf_133
  refine tm_sw (j := 6) (103 : Int32) 132 X dX5_factOf_1 (by decide) (by decide) rfl rfl ?_ (fun hs7 => ?_)
  · skip
    refine tm_iconst X (-1 : Int32) dX5_factOf_132 (by decide) ?_
    exact tm_retI hRet dX5_factOf_133
  refine tm_sw (j := 7) (104 : Int32) 120 X dX5_factOf_1 (by decide) (by decide) rfl rfl ?_ (fun hs8 => ?_)
  · skip
    refine tm_bipush X (6 : Int32) dX5_factOf_120 (by decide) ?_
    exact tm_retI hRet dX5_factOf_122
  refine tm_sw (j := 8) (105 : Int32) 132 X dX5_factOf_1 (by decide) (by decide) rfl rfl ?_ (fun hs9 => ?_)
  · skip
    refine tm_iconst X (-1 : Int32) dX5_factOf_132 (by decide) ?_
    exact tm_retI hRet dX5_factOf_133
  refine tm_sw (j := 9) (106 : Int32) 132 X dX5_factOf_1 (by decide) (by decide) rfl rfl ?_ (fun hs10 => ?_)
  · skip
    refine tm_iconst X (-1 : Int32) dX5_factOf_132 (by decide) ?_
    exact tm_retI hRet dX5_factOf_133
  refine tm_sw (j := 10) (107 : Int32) 123 X dX5_factOf_1 (by decide) (by decide) rfl rfl ?_ (fun hs11 => ?_)
  · skip
    refine tm_bipush X (7 : Int32) dX5_factOf_123 (by decide) ?_
    exact tm_retI hRet dX5_factOf_125
  refine tm_sw (j := 11) (108 : Int32) 110 X dX5_factOf_1 (by decide) (by decide) rfl rfl ?_ (fun hs12 => ?_)
  · skip
    refine tm_iconst X (1 : Int32) dX5_factOf_110 (by decide) ?_
    exact tm_retI hRet dX5_factOf_111
  refine tm_sw (j := 12) (109 : Int32) 132 X dX5_factOf_1 (by decide) (by decide) rfl rfl ?_ (fun hs13 => ?_)
  · skip
    refine tm_iconst X (-1 : Int32) dX5_factOf_132 (by decide) ?_
    exact tm_retI hRet dX5_factOf_133
  refine tm_sw (j := 13) (110 : Int32) 132 X dX5_factOf_1 (by decide) (by decide) rfl rfl ?_ (fun hs14 => ?_)
  · skip
    refine tm_iconst X (-1 : Int32) dX5_factOf_132 (by decide) ?_
    exact tm_retI hRet dX5_factOf_133
  refine tm_sw (j := 14) (111 : Int32) 132 X dX5_factOf_1 (by decide) (by decide) rfl rfl ?_ (fun hs15 => ?_)
  · skip
    refine tm_iconst X (-1 : Int32) dX5_factOf_132 (by decide) ?_
    exact tm_retI hRet dX5_factOf_133
  refine tm_sw (j := 15) (112 : Int32) 132 X dX5_factOf_1 (by decide) (by decide) rfl rfl ?_ (fun hs16 => ?_)
  · skip
    refine tm_iconst X (-1 : Int32) dX5_factOf_132 (by decide) ?_
    exact tm_retI hRet dX5_factOf_133
  refine tm_sw (j := 16) (113 : Int32) 132 X dX5_factOf_1 (by decide) (by decide) rfl rfl ?_ (fun hs17 => ?_)
  · skip
    refine tm_iconst X (-1 : Int32) dX5_factOf_132 (by decide) ?_
    exact tm_retI hRet dX5_factOf_133
  refine tm_sw (j := 17) (114 : Int32) 132 X dX5_factOf_1 (by decide) (by decide) rfl rfl ?_ (fun hs18 => ?_)
  · skip
    refine tm_iconst X (-1 : Int32) dX5_factOf_132 (by decide) ?_
    exact tm_retI hRet dX5_factOf_133
  refine tm_sw (j := 18) (115 : Int32) 132 X dX5_factOf_1 (by decide) (by decide) rfl rfl ?_ (fun hs19 => ?_)
  · skip
    refine tm_iconst X (-1 : Int32) dX5_factOf_132 (by decide) ?_
    exact tm_retI hRet dX5_factOf_133
  refine tm_sw (j := 19) (116 : Int32) 126 X dX5_factOf_1 (by decide) (by decide) rfl rfl ?_ (fun hs20 => ?_)
  · skip
    refine tm_bipush X (8 : Int32) dX5_factOf_126 (by decide) ?_
    exact tm_retI hRet dX5_factOf_128
  refine tm_sw (j := 20) (117 : Int32) 108 X dX5_factOf_1 (by decide) (by decide) rfl rfl ?_ (fun hs21 => ?_)
  · skip
    refine tm_iconst X (0 : Int32) dX5_factOf_108 (by decide) ?_
    exact tm_retI hRet dX5_factOf_109
  refine tm_sw (j := 21) (118 : Int32) 132 X dX5_factOf_1 (by decide) (by decide) rfl rfl ?_ (fun hs22 => ?_)
  · skip
    refine tm_iconst X (-1 : Int32) dX5_factOf_132 (by decide) ?_
    exact tm_retI hRet dX5_factOf_133
  refine tm_sw (j := 22) (119 : Int32) 129 X dX5_factOf_1 (by decide) (by decide) rfl rfl ?_ (fun hs23 => ?_)
  · skip
    refine tm_bipush X (9 : Int32) dX5_factOf_129 (by decide) ?_
    exact tm_retI hRet dX5_factOf_131
  refine tm_swd 132 X dX5_factOf_1 (by have := ne_toInt hs1 (n := 97) (by decide); have := ne_toInt hs2 (n := 98) (by decide); have := ne_toInt hs3 (n := 99) (by decide); have := ne_toInt hs4 (n := 100) (by decide); have := ne_toInt hs5 (n := 101) (by decide); have := ne_toInt hs6 (n := 102) (by decide); have := ne_toInt hs7 (n := 103) (by decide); have := ne_toInt hs8 (n := 104) (by decide); have := ne_toInt hs9 (n := 105) (by decide); have := ne_toInt hs10 (n := 106) (by decide); have := ne_toInt hs11 (n := 107) (by decide); have := ne_toInt hs12 (n := 108) (by decide); have := ne_toInt hs13 (n := 109) (by decide); have := ne_toInt hs14 (n := 110) (by decide); have := ne_toInt hs15 (n := 111) (by decide); have := ne_toInt hs16 (n := 112) (by decide); have := ne_toInt hs17 (n := 113) (by decide); have := ne_toInt hs18 (n := 114) (by decide); have := ne_toInt hs19 (n := 115) (by decide); have := ne_toInt hs20 (n := 116) (by decide); have := ne_toInt hs21 (n := 117) (by decide); have := ne_toInt hs22 (n := 118) (by decide); have := ne_toInt hs23 (n := 119) (by decide); omega) rfl ?_
  refine tm_iconst X (-1 : Int32) dX5_factOf_132 (by decide) ?_
  exact tm_retI hRet dX5_factOf_133
def mX5_readsFactor (h : Hp)  : Option (Int32 × Hp) :=
fx FU (fun _ => none) (fun k0 (h1 : Hp) =>
cl1 (mX5_here h1) (fun r3 =>
if r3 = (91 : Int32) then (
cl2 (mX5_opens h1 (14 : Int32)) (fun r22 h23 =>
if r22 = 0 then (
bz (0 : Int32) (some ((0 : Int32), h23))) else (
k0 h23))) else (
cl1 (mX5_isDigit h1) (fun r5 =>
if r5 = 0 then (
cl1 (mX5_here h1) (fun r7 =>
cl1 (mX5_factOf r7) (fun r8 =>
if r8 = (-1 : Int32) then (
cl2 (mX5_wrongAt h1 (1 : Int32) (h1 300 7)) (fun r14 h15 =>
bz r14 (some (r14, h15)))) else (
cl1 (mX5_notes h1 (1 : Int32) r8) (fun h11 =>
nm (u2 h11 300 7 ((h11 300 7) + (1 : Int32))) (fun h12 =>
bz (1 : Int32) (some ((1 : Int32), h12)))))))) else (
cl2 (mX5_readsNumber h1) (fun r17 h18 =>
if r17 = 0 then (
bz (0 : Int32) (some ((0 : Int32), h18))) else (
cl1 (mX5_notes h18 (0 : Int32) (h18 300 10)) (fun h20 =>
bz (1 : Int32) (some ((1 : Int32), h20)))))))))) h
theorem cyX5_readsFactor : Callee yX5_readsFactor 0 := by unfold Callee; decide +kernel
set_option maxHeartbeats 4000000 in
theorem ctX5_readsFactor (l : Launch) (D : va_G) (ad : Nat → Nat) (dA : Nat → ClassId) (h : Hp)  (r : Int32) (h' : Hp) (hm : mX5_readsFactor h = some (r, h')) : CT l yX5_readsFactor cX5_readsFactor 2 (some .boolean) D dA 3 61 0 0 (wM ad dA h) [.ref (ad 300)] (some (.int r)) (wM ad dA h') := by
  refine ct_open (by decide) (Nat.le_of_ble_eq_true rfl) ?_
  intro G X hI hZ hV hR
  have hRet := fun hv => hZ rfl r hv rfl
  refine (show TM G (r, h') (mX5_readsFactor h) (wM ad dA h) 0 0 0 [(0, .ref (ad 300))] [] from ?_) hm
  clear hm hI hZ hV hR
  unfold mX5_readsFactor
  refine fx_P (fun (k : Hp → Option (Int32 × Hp)) => ∀ (h1 : Hp), TM G (r, h') (k h1) (wM ad dA h1) 0 0 0 [(0, .ref (ad 300))] []) (fun _ => tm_none) (fun k0 hk0 h1 => ?_) FU h
  refine tm_aload_n X 0 dX5_readsFactor_0 rfl rfl ?_
  refine tm_cl1 (fun r3 e2 => ?_)
  refine tm_callVi (As := []) (rest := []) (q0 := 0) X (ctX5_here l D ad dA h1 r3 e2) (lw_V q1400 q1402 qs52 q122 q1403) cyX5_here rfl rfl rfl ⟨(Nat.le_of_ble_eq_true rfl), (Nat.le_of_ble_eq_true rfl)⟩ (Nat.le_of_ble_eq_true rfl) dX5_readsFactor_1 ⟨Nat.le_of_ble_eq_true rfl, Nat.le_of_ble_eq_true rfl⟩ rfl ?_
  refine tm_bipush X (91 : Int32) dX5_readsFactor_4 (by decide) ?_
  refine tm_ic_ne X 20 dX5_readsFactor_6 rfl ?_ ?_
  · skip
    refine tm_aload_n X 0 dX5_readsFactor_20 rfl rfl ?_
    refine tm_cl1 (fun r5 e4 => ?_)
    refine tm_callVi (As := []) (rest := []) (q0 := 0) X (ctX5_isDigit l D ad dA h1 r5 e4) (lw_V q1421 q1423 qs57 q122 q1424) cyX5_isDigit rfl rfl rfl ⟨(Nat.le_of_ble_eq_true rfl), (Nat.le_of_ble_eq_true rfl)⟩ (Nat.le_of_ble_eq_true rfl) dX5_readsFactor_21 ⟨Nat.le_of_ble_eq_true rfl, Nat.le_of_ble_eq_true rfl⟩ rfl ?_
    refine tm_if_eq X 47 dX5_readsFactor_24 rfl ?_ ?_
    · skip
      refine tm_aload_n X 0 dX5_readsFactor_47 rfl rfl ?_
      refine tm_cl1 (fun r7 e6 => ?_)
      refine tm_callVi (As := []) (rest := []) (q0 := 0) X (ctX5_here l D ad dA h1 r7 e6) (lw_V q1400 q1402 qs52 q122 q1403) cyX5_here rfl rfl rfl ⟨(Nat.le_of_ble_eq_true rfl), (Nat.le_of_ble_eq_true rfl)⟩ (Nat.le_of_ble_eq_true rfl) dX5_readsFactor_48 ⟨Nat.le_of_ble_eq_true rfl, Nat.le_of_ble_eq_true rfl⟩ rfl ?_
      refine tm_cl1 (fun r8 e9 => ?_)
      refine tm_callSi (As := [.int r7]) (rest := []) X (ctX5_factOf l D dA r7 r8 e9) (lw_S q1433 q1434 q122 q1435) cyX5_factOf rfl ⟨(Nat.le_of_ble_eq_true rfl), (Nat.le_of_ble_eq_true rfl)⟩ (Nat.le_of_ble_eq_true rfl) dX5_readsFactor_51 ⟨Nat.le_of_ble_eq_true rfl, Nat.le_of_ble_eq_true rfl⟩ rfl ?_
      refine tm_istore_n X [(1, .int r8), (0, .ref (ad 300))] dX5_readsFactor_54 rfl (Nat.le_of_ble_eq_true rfl) rfl ?_
      refine tm_iload_n X 0 dX5_readsFactor_55 rfl rfl ?_
      refine tm_iconst X (-1 : Int32) dX5_readsFactor_56 (by decide) ?_
      refine tm_ic_ne X 70 dX5_readsFactor_57 rfl ?_ ?_
      · skip
        refine tm_aload_n X 1 dX5_readsFactor_70 rfl rfl ?_
        refine tm_iconst X (1 : Int32) dX5_readsFactor_71 (by decide) ?_
        refine tm_iload_n X 0 dX5_readsFactor_72 rfl rfl ?_
        refine tm_cl1 (fun h11 e10 => ?_)
        refine tm_callVv (As := [.int (1 : Int32), .int r8]) (rest := []) (q0 := 0) X (ctX5_notes l D ad dA h1 (1 : Int32) r8 h11 e10) (lw_V q1429 q1431 qs59 q122 q1432) cyX5_notes rfl rfl rfl ⟨(Nat.le_of_ble_eq_true rfl), (Nat.le_of_ble_eq_true rfl)⟩ (Nat.le_of_ble_eq_true rfl) dX5_readsFactor_73 ⟨Nat.le_of_ble_eq_true rfl, Nat.le_of_ble_eq_true rfl⟩ rfl ?_
        refine tm_aload_n X 1 dX5_readsFactor_76 rfl rfl ?_
        refine tm_aload_n X 1 dX5_readsFactor_77 rfl rfl ?_
        refine tm_getI X (fiM_300_7 ad dA) in_X5 rfl (Nat.le_of_ble_eq_true rfl) q1194 rfl dX5_readsFactor_78 ?_
        refine tm_iconst X (1 : Int32) dX5_readsFactor_81 (by decide) ?_
        refine tm_iadd X dX5_readsFactor_82 ?_
        refine tm_putI X (fiM_300_7 ad dA) in_X5 rfl (Nat.le_of_ble_eq_true rfl) tyX5 tyX5_ok nmX5 rfl rfl q1194 rfl dX5_readsFactor_83 (fun h12 => ?_)
        refine tm_iconst X (1 : Int32) dX5_readsFactor_86 (by decide) ?_
        exact tm_retZH (wf := wM ad dA) hRet dX5_readsFactor_87
      · skip
        refine tm_aload_n X 1 dX5_readsFactor_60 rfl rfl ?_
        refine tm_iconst X (1 : Int32) dX5_readsFactor_61 (by decide) ?_
        refine tm_aload_n X 1 dX5_readsFactor_62 rfl rfl ?_
        refine tm_getI X (fiM_300_7 ad dA) in_X5 rfl (Nat.le_of_ble_eq_true rfl) q1194 rfl dX5_readsFactor_63 ?_
        refine tm_cl2 (fun r14 h15 e13 => ?_)
        refine tm_callVi (As := [.int (1 : Int32), .int (h1 300 7)]) (rest := []) (q0 := 0) X (ctX5_wrongAt l D ad dA h1 (1 : Int32) (h1 300 7) r14 h15 e13) (lw_V q1404 q1406 qs53 q122 q1407) cyX5_wrongAt rfl rfl rfl ⟨(Nat.le_of_ble_eq_true rfl), (Nat.le_of_ble_eq_true rfl)⟩ (Nat.le_of_ble_eq_true rfl) dX5_readsFactor_66 ⟨Nat.le_of_ble_eq_true rfl, Nat.le_of_ble_eq_true rfl⟩ rfl ?_
        exact tm_retZH (wf := wM ad dA) hRet dX5_readsFactor_69
    · skip
      refine tm_aload_n X 0 dX5_readsFactor_27 rfl rfl ?_
      refine tm_cl2 (fun r17 h18 e16 => ?_)
      refine tm_callVi (As := []) (rest := []) (q0 := 0) X (ctX5_readsNumber l D ad dA h1 r17 h18 e16) (lw_V q1425 q1427 qs58 q122 q1428) cyX5_readsNumber rfl rfl rfl ⟨(Nat.le_of_ble_eq_true rfl), (Nat.le_of_ble_eq_true rfl)⟩ (Nat.le_of_ble_eq_true rfl) dX5_readsFactor_28 ⟨Nat.le_of_ble_eq_true rfl, Nat.le_of_ble_eq_true rfl⟩ rfl ?_
      refine tm_if_ne X 36 dX5_readsFactor_31 rfl ?_ ?_
      · skip
        refine tm_aload_n X 0 dX5_readsFactor_36 rfl rfl ?_
        refine tm_iconst X (0 : Int32) dX5_readsFactor_37 (by decide) ?_
        refine tm_aload_n X 0 dX5_readsFactor_38 rfl rfl ?_
        refine tm_getI X (fiM_300_10 ad dA) in_X5 rfl (Nat.le_of_ble_eq_true rfl) q1197 rfl dX5_readsFactor_39 ?_
        refine tm_cl1 (fun h20 e19 => ?_)
        refine tm_callVv (As := [.int (0 : Int32), .int (h18 300 10)]) (rest := []) (q0 := 0) X (ctX5_notes l D ad dA h18 (0 : Int32) (h18 300 10) h20 e19) (lw_V q1429 q1431 qs59 q122 q1432) cyX5_notes rfl rfl rfl ⟨(Nat.le_of_ble_eq_true rfl), (Nat.le_of_ble_eq_true rfl)⟩ (Nat.le_of_ble_eq_true rfl) dX5_readsFactor_42 ⟨Nat.le_of_ble_eq_true rfl, Nat.le_of_ble_eq_true rfl⟩ rfl ?_
        refine tm_iconst X (1 : Int32) dX5_readsFactor_45 (by decide) ?_
        exact tm_retZH (wf := wM ad dA) hRet dX5_readsFactor_46
      · skip
        refine tm_iconst X (0 : Int32) dX5_readsFactor_34 (by decide) ?_
        exact tm_retZH (wf := wM ad dA) hRet dX5_readsFactor_35
  · skip
    refine tm_aload_n X 0 dX5_readsFactor_9 rfl rfl ?_
    refine tm_bipush X (14 : Int32) dX5_readsFactor_10 (by decide) ?_
    refine tm_cl2 (fun r22 h23 e21 => ?_)
    refine tm_callVi (As := [.int (14 : Int32)]) (rest := []) (q0 := 0) X (ctX5_opens l D ad dA h1 (14 : Int32) r22 h23 e21) (lw_V q1416 q1418 qs56 q122 q1419) cyX5_opens rfl rfl rfl ⟨(Nat.le_of_ble_eq_true rfl), (Nat.le_of_ble_eq_true rfl)⟩ (Nat.le_of_ble_eq_true rfl) dX5_readsFactor_12 ⟨Nat.le_of_ble_eq_true rfl, Nat.le_of_ble_eq_true rfl⟩ rfl ?_
    refine tm_if_ne X 0 dX5_readsFactor_15 rfl ?_ ?_
    · skip
      exact hk0 h23
    · skip
      refine tm_iconst X (0 : Int32) dX5_readsFactor_18 (by decide) ?_
      exact tm_retZH (wf := wM ad dA) hRet dX5_readsFactor_19
def mX5_sumSign (x0 : Int32) : Option (Int32) :=
nm (fun (s1 : Int32) =>
some s1) (fun k52 =>
if x0 = (43 : Int32) then (
k52 (2 : Int32)) else (
if x0 = (45 : Int32) then (
k52 (3 : Int32)) else (
if x0 = (42 : Int32) then (
k52 (4 : Int32)) else (
if x0 = (47 : Int32) then (
k52 (5 : Int32)) else (
if x0 = (37 : Int32) then (
k52 (6 : Int32)) else (
k52 (-1 : Int32)))))))
theorem cyX5_sumSign : Callee yX5_sumSign 1 := by unfold Callee; decide +kernel
set_option maxHeartbeats 4000000 in
theorem ctX5_sumSign (l : Launch) (D : va_G) (dA : Nat → ClassId) (x0 : Int32) (r : Int32) (hm : mX5_sumSign x0 = some r) : CT l yX5_sumSign cX5_sumSign 1 (some .int) D dA 0 0 0 0 [] [.int x0] (some (.int r)) [] := by
  refine ct_open (by decide) (Nat.le_of_ble_eq_true rfl) ?_
  intro G X hI hZ hV hR
  have hRet := hI rfl r rfl
  refine (show TM G r (mX5_sumSign x0) [] 0 0 0 [(0, .int x0)] [] from ?_) hm
  clear hm hI hZ hV hR
  unfold mX5_sumSign
  refine tm_iload_n X 0 dX5_sumSign_0 rfl rfl ?_
  refine tm_bipush X (43 : Int32) dX5_sumSign_1 (by decide) ?_
  refine tm_let (fun k => ∀ (s1 : Int32), TM G r (k s1) [] 0 0 52 [] [.int s1]) ?_ (fun k52 hk52 => ?_)
  · intro s1
    exact tm_retI hRet dX5_sumSign_52
  · skip
    refine tm_ic_ne X 10 dX5_sumSign_3 rfl ?_ ?_
    · skip
      refine tm_iload_n X 0 dX5_sumSign_10 rfl rfl ?_
      refine tm_bipush X (45 : Int32) dX5_sumSign_11 (by decide) ?_
      refine tm_ic_ne X 20 dX5_sumSign_13 rfl ?_ ?_
      · skip
        refine tm_iload_n X 0 dX5_sumSign_20 rfl rfl ?_
        refine tm_bipush X (42 : Int32) dX5_sumSign_21 (by decide) ?_
        refine tm_ic_ne X 30 dX5_sumSign_23 rfl ?_ ?_
        · skip
          refine tm_iload_n X 0 dX5_sumSign_30 rfl rfl ?_
          refine tm_bipush X (47 : Int32) dX5_sumSign_31 (by decide) ?_
          refine tm_ic_ne X 40 dX5_sumSign_33 rfl ?_ ?_
          · skip
            refine tm_iload_n X 0 dX5_sumSign_40 rfl rfl ?_
            refine tm_bipush X (37 : Int32) dX5_sumSign_41 (by decide) ?_
            refine tm_ic_ne X 51 dX5_sumSign_43 rfl ?_ ?_
            · skip
              refine tm_iconst X (-1 : Int32) dX5_sumSign_51 (by decide) ?_
              refine tm_lv X [] rfl ?_
              exact hk52 (-1 : Int32)
            · skip
              refine tm_bipush X (6 : Int32) dX5_sumSign_46 (by decide) ?_
              refine tm_goto X 52 dX5_sumSign_48 rfl ?_
              refine tm_lv X [] rfl ?_
              exact hk52 (6 : Int32)
          · skip
            refine tm_iconst X (5 : Int32) dX5_sumSign_36 (by decide) ?_
            refine tm_goto X 52 dX5_sumSign_37 rfl ?_
            refine tm_lv X [] rfl ?_
            exact hk52 (5 : Int32)
        · skip
          refine tm_iconst X (4 : Int32) dX5_sumSign_26 (by decide) ?_
          refine tm_goto X 52 dX5_sumSign_27 rfl ?_
          refine tm_lv X [] rfl ?_
          exact hk52 (4 : Int32)
      · skip
        refine tm_iconst X (3 : Int32) dX5_sumSign_16 (by decide) ?_
        refine tm_goto X 52 dX5_sumSign_17 rfl ?_
        refine tm_lv X [] rfl ?_
        exact hk52 (3 : Int32)
    · skip
      refine tm_iconst X (2 : Int32) dX5_sumSign_6 (by decide) ?_
      refine tm_goto X 52 dX5_sumSign_7 rfl ?_
      refine tm_lv X [] rfl ?_
      exact hk52 (2 : Int32)
