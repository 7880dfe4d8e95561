set_option maxRecDepth 100000
def mX0_in (x0 : Int32) (x1 : Int32) : Option (Int32) :=
nm (fun (s1 : Int32) =>
bz s1 (some s1)) (fun k14 =>
nm (
k14 (0 : Int32)) (fun k13 =>
if x0 < 0 then (
k13) else (
if x1 ≤ x0 then (
k13) else (
k14 (1 : Int32)))))
theorem cyX0_in : Callee yX0_in 2 := by unfold Callee; decide +kernel
set_option maxHeartbeats 4000000 in
theorem ctX0_in (l : Launch) (D : va_G) (dA : Nat → ClassId) (x0 : Int32) (x1 : Int32) (r : Int32) (hm : mX0_in x0 x1 = some r) : CT l yX0_in cX0_in 2 (some .boolean) D dA 0 0 0 0 [] [.int x0, .int x1] (some (.int r)) [] := by
  refine ct_open (by decide) (Nat.le_of_ble_eq_true rfl) ?_
  intro G X hI hZ hV hR
  have hRet := fun hv => hZ rfl r hv rfl
  refine (show TM G r (mX0_in x0 x1) [] 0 0 0 [(0, .int x0), (1, .int x1)] [] from ?_) hm
  clear hm hI hZ hV hR
  unfold mX0_in
  refine tm_iload_n X 0 dX0_in_0 rfl rfl ?_
  refine tm_let (fun k => ∀ (s1 : Int32), TM G r (k s1) [] 0 0 14 [] [.int s1]) ?_ (fun k14 hk14 => ?_)
  · intro s1
    exact tm_retZ hRet dX0_in_14
  · skip
    refine tm_let (fun k => TM G r k [] 0 0 13 [] []) ?_ (fun k13 hk13 => ?_)
    · skip
      refine tm_iconst X (0 : Int32) dX0_in_13 (by decide) ?_
      exact hk14 (0 : Int32)
    · skip
      refine tm_if_lt X 13 dX0_in_1 rfl ?_ ?_
      · skip
        refine tm_lv X [] rfl ?_
        exact hk13
      · skip
        refine tm_iload_n X 0 dX0_in_4 rfl rfl ?_
        refine tm_iload_n X 1 dX0_in_5 rfl rfl ?_
        refine tm_ic_ge X 13 dX0_in_6 rfl ?_ ?_
        · skip
          refine tm_lv X [] rfl ?_
          exact hk13
        · skip
          refine tm_iconst X (1 : Int32) dX0_in_9 (by decide) ?_
          refine tm_goto X 14 dX0_in_10 rfl ?_
          refine tm_lv X [] rfl ?_
          exact hk14 (1 : Int32)
def mX0_isCast (x0 : Int32) : Option (Int32) :=
cl1 (mX0_in x0 (2 : Int32)) (fun r1 =>
bz r1 (some r1))
theorem cyX0_isCast : Callee yX0_isCast 1 := by unfold Callee; decide +kernel
set_option maxHeartbeats 4000000 in
theorem ctX0_isCast (l : Launch) (D : va_G) (dA : Nat → ClassId) (x0 : Int32) (r : Int32) (hm : mX0_isCast x0 = some r) : CT l yX0_isCast cX0_isCast 1 (some .boolean) D dA 1 21 0 0 [] [.int x0] (some (.int r)) [] := by
  refine ct_open (by decide) (Nat.le_of_ble_eq_true rfl) ?_
  intro G X hI hZ hV hR
  have hRet := fun hv => hZ rfl r hv rfl
  refine (show TM G r (mX0_isCast x0) [] 0 0 0 [(0, .int x0)] [] from ?_) hm
  clear hm hI hZ hV hR
  unfold mX0_isCast
  refine tm_iload_n X 0 dX0_isCast_0 rfl rfl ?_
  refine tm_iconst X (2 : Int32) dX0_isCast_1 (by decide) ?_
  refine tm_cl1 (fun r1 e2 => ?_)
  refine tm_callSi (As := [.int x0, .int (2 : Int32)]) (rest := []) X (ctX0_in l D dA x0 (2 : Int32) r1 e2) (lw_S q311 q312 q117 q313) cyX0_in rfl ⟨(Nat.le_of_ble_eq_true rfl), (Nat.le_of_ble_eq_true rfl)⟩ (Nat.le_of_ble_eq_true rfl) dX0_isCast_2 ⟨Nat.le_of_ble_eq_true rfl, Nat.le_of_ble_eq_true rfl⟩ rfl ?_
  exact tm_retZ hRet dX0_isCast_5
def mX0_isPlace (x0 : Int32) : Option (Int32) :=
cl1 (mX0_in x0 (48 : Int32)) (fun r1 =>
bz r1 (some r1))
theorem cyX0_isPlace : Callee yX0_isPlace 1 := by unfold Callee; decide +kernel
set_option maxHeartbeats 4000000 in
theorem ctX0_isPlace (l : Launch) (D : va_G) (dA : Nat → ClassId) (x0 : Int32) (r : Int32) (hm : mX0_isPlace x0 = some r) : CT l yX0_isPlace cX0_isPlace 1 (some .boolean) D dA 1 21 0 0 [] [.int x0] (some (.int r)) [] := by
  refine ct_open (by decide) (Nat.le_of_ble_eq_true rfl) ?_
  intro G X hI hZ hV hR
  have hRet := fun hv => hZ rfl r hv rfl
  refine (show TM G r (mX0_isPlace x0) [] 0 0 0 [(0, .int x0)] [] from ?_) hm
  clear hm hI hZ hV hR
  unfold mX0_isPlace
  refine tm_iload_n X 0 dX0_isPlace_0 rfl rfl ?_
  refine tm_bipush X (48 : Int32) dX0_isPlace_1 (by decide) ?_
  refine tm_cl1 (fun r1 e2 => ?_)
  refine tm_callSi (As := [.int x0, .int (48 : Int32)]) (rest := []) X (ctX0_in l D dA x0 (48 : Int32) r1 e2) (lw_S q311 q312 q117 q313) cyX0_in rfl ⟨(Nat.le_of_ble_eq_true rfl), (Nat.le_of_ble_eq_true rfl)⟩ (Nat.le_of_ble_eq_true rfl) dX0_isPlace_3 ⟨Nat.le_of_ble_eq_true rfl, Nat.le_of_ble_eq_true rfl⟩ rfl ?_
  exact tm_retZ hRet dX0_isPlace_6
def mX0_within (x0 : Int32) (x1 : Int32) (x2 : Int32) : Option (Int32) :=
nm (fun (s1 : Int32) =>
bz s1 (some s1)) (fun k15 =>
nm (
k15 (0 : Int32)) (fun k14 =>
if x0 < x1 then (
k14) else (
if x2 < x0 then (
k14) else (
k15 (1 : Int32)))))
theorem cyX0_within : Callee yX0_within 3 := by unfold Callee; decide +kernel
set_option maxHeartbeats 4000000 in
theorem ctX0_within (l : Launch) (D : va_G) (dA : Nat → ClassId) (x0 : Int32) (x1 : Int32) (x2 : Int32) (r : Int32) (hm : mX0_within x0 x1 x2 = some r) : CT l yX0_within cX0_within 3 (some .boolean) D dA 0 0 0 0 [] [.int x0, .int x1, .int x2] (some (.int r)) [] := by
  refine ct_open (by decide) (Nat.le_of_ble_eq_true rfl) ?_
  intro G X hI hZ hV hR
  have hRet := fun hv => hZ rfl r hv rfl
  refine (show TM G r (mX0_within x0 x1 x2) [] 0 0 0 [(0, .int x0), (1, .int x1), (2, .int x2)] [] from ?_) hm
  clear hm hI hZ hV hR
  unfold mX0_within
  refine tm_iload_n X 0 dX0_within_0 rfl rfl ?_
  refine tm_iload_n X 1 dX0_within_1 rfl rfl ?_
  refine tm_let (fun k => ∀ (s1 : Int32), TM G r (k s1) [] 0 0 15 [] [.int s1]) ?_ (fun k15 hk15 => ?_)
  · intro s1
    exact tm_retZ hRet dX0_within_15
  · skip
    refine tm_let (fun k => TM G r k [] 0 0 14 [] []) ?_ (fun k14 hk14 => ?_)
    · skip
      refine tm_iconst X (0 : Int32) dX0_within_14 (by decide) ?_
      exact hk15 (0 : Int32)
    · skip
      refine tm_ic_lt X 14 dX0_within_2 rfl ?_ ?_
      · skip
        refine tm_lv X [] rfl ?_
        exact hk14
      · skip
        refine tm_iload_n X 0 dX0_within_5 rfl rfl ?_
        refine tm_iload_n X 2 dX0_within_6 rfl rfl ?_
        refine tm_ic_gt X 14 dX0_within_7 rfl ?_ ?_
        · skip
          refine tm_lv X [] rfl ?_
          exact hk14
        · skip
          refine tm_iconst X (1 : Int32) dX0_within_10 (by decide) ?_
          refine tm_goto X 15 dX0_within_11 rfl ?_
          refine tm_lv X [] rfl ?_
          exact hk15 (1 : Int32)
def mX0_height (h : Hp) (x1 : Int32) (x2 : Int32) (x3 : Int32) : Option (Int32 × Hp) :=
cl1 (mX0_isCast x1) (fun r1 =>
nm (
bz (0 : Int32) (some ((0 : Int32), h))) (fun k24 =>
if r1 = 0 then (
k24) else (
cl1 (mX0_isPlace x2) (fun r3 =>
if r3 = 0 then (
k24) else (
cl1 (mX0_within x3 (0 : Int32) (25 : Int32)) (fun r5 =>
if r5 = 0 then (
k24) else (
ck x1 2 (
ck x2 48 (nm (u2 h (42 + x1.toNatClampNeg) x2.toNatClampNeg x3) (fun h8 =>
bz (1 : Int32) (some ((1 : Int32), h8))))))))))))
theorem cyX0_height : Callee yX0_height 3 := by unfold Callee; decide +kernel
set_option maxHeartbeats 4000000 in
theorem ctX0_height (l : Launch) (D : va_G) (ad : Nat → Nat) (dA : Nat → ClassId) (tt : (Nat → Option Nat) × (Nat → Option Nat) × va_W) (h : Hp) (x1 : Int32) (x2 : Int32) (x3 : Int32) (r : Int32) (h' : Hp) (hm : mX0_height h x1 x2 x3 = some (r, h')) : CT l yX0_height cX0_height 4 (some .boolean) D dA 2 41 0 0 (wX ad dA tt h) [.ref (ad 100), .int x1, .int x2, .int x3] (some (.int r)) (wX ad dA tt h') := by
  refine ct_open (by decide) (Nat.le_of_ble_eq_true rfl) ?_
  intro G X hI hZ hV hR
  have hRet := fun hv => hZ rfl r hv rfl
  refine (show TM G (r, h') (mX0_height h x1 x2 x3) (wX ad dA tt h) 0 0 0 [(0, .ref (ad 100)), (1, .int x1), (2, .int x2), (3, .int x3)] [] from ?_) hm
  clear hm hI hZ hV hR
  unfold mX0_height
  refine tm_iload_n X 1 dX0_height_0 rfl rfl ?_
  refine tm_cl1 (fun r1 e2 => ?_)
  refine tm_callSi (As := [.int x1]) (rest := []) X (ctX0_isCast l D dA x1 r1 e2) (lw_S q308 q309 q117 q310) cyX0_isCast rfl ⟨(Nat.le_of_ble_eq_true rfl), (Nat.le_of_ble_eq_true rfl)⟩ (Nat.le_of_ble_eq_true rfl) dX0_height_1 ⟨Nat.le_of_ble_eq_true rfl, Nat.le_of_ble_eq_true rfl⟩ rfl ?_
  refine tm_let (fun k => TM G (r, h') k (wX ad dA tt h) 0 0 24 [] []) ?_ (fun k24 hk24 => ?_)
  · skip
    refine tm_iconst X (0 : Int32) dX0_height_24 (by decide) ?_
    exact tm_retZH (wf := wX ad dA tt) hRet dX0_height_25
  · skip
    refine tm_if_eq X 24 dX0_height_4 rfl ?_ ?_
    · skip
      refine tm_lv X [] rfl ?_
      exact hk24
    · skip
      refine tm_iload_n X 2 dX0_height_7 rfl rfl ?_
      refine tm_cl1 (fun r3 e4 => ?_)
      refine tm_callSi (As := [.int x2]) (rest := []) X (ctX0_isPlace l D dA x2 r3 e4) (lw_S q314 q315 q117 q316) cyX0_isPlace rfl ⟨(Nat.le_of_ble_eq_true rfl), (Nat.le_of_ble_eq_true rfl)⟩ (Nat.le_of_ble_eq_true rfl) dX0_height_8 ⟨Nat.le_of_ble_eq_true rfl, Nat.le_of_ble_eq_true rfl⟩ rfl ?_
      refine tm_if_eq X 24 dX0_height_11 rfl ?_ ?_
      · skip
        refine tm_lv X [] rfl ?_
        exact hk24
      · skip
        refine tm_iload_n X 3 dX0_height_14 rfl rfl ?_
        refine tm_iconst X (0 : Int32) dX0_height_15 (by decide) ?_
        refine tm_bipush X (25 : Int32) dX0_height_16 (by decide) ?_
        refine tm_cl1 (fun r5 e6 => ?_)
        refine tm_callSi (As := [.int x3, .int (0 : Int32), .int (25 : Int32)]) (rest := []) X (ctX0_within l D dA x3 (0 : Int32) (25 : Int32) r5 e6) (lw_S q317 q318 q117 q319) cyX0_within rfl ⟨(Nat.le_of_ble_eq_true rfl), (Nat.le_of_ble_eq_true rfl)⟩ (Nat.le_of_ble_eq_true rfl) dX0_height_18 ⟨Nat.le_of_ble_eq_true rfl, Nat.le_of_ble_eq_true rfl⟩ rfl ?_
        refine tm_if_ne X 26 dX0_height_21 rfl ?_ ?_
        · skip
          refine tm_aload_n X 0 dX0_height_26 rfl rfl ?_
          refine tm_getR X (frX_100_5 ad dA tt h) in_X0 rfl (Nat.le_of_ble_eq_true rfl) q242 rfl dX0_height_27 ?_
          refine tm_getRN X (frX_40_0 ad dA tt h) in_X3 rfl (Nat.le_of_ble_eq_true rfl) q179 rfl dX0_height_30 ?_
          refine tm_iload_n X 1 dX0_height_33 rfl rfl ?_
          refine tm_aaloadX X (aaX_41 ad dA tt h) dX0_height_34 (fun hb7 => ?_)
          refine tm_iload_n X 2 dX0_height_35 rfl rfl ?_
          refine tm_iload_n X 3 dX0_height_36 rfl rfl ?_
          refine tm_iastore X (ar2X_42 ad dA tt _ hb7) dX0_height_37 (fun h8 => ?_)
          refine tm_iconst X (1 : Int32) dX0_height_38 (by decide) ?_
          exact tm_retZH (wf := wX ad dA tt) hRet dX0_height_39
        · skip
          refine tm_lv X [] rfl ?_
          exact hk24
def mX0_keepOff (h : Hp) (x1 : Int32) (x2 : Int32) : Option (Int32 × Hp) :=
cl1 (mX0_isPlace x1) (fun r1 =>
if r1 = 0 then (
bz (0 : Int32) (some ((0 : Int32), h))) else (
ck x1 48 (nm (u2 h 1 x1.toNatClampNeg (vp_nar .boolean x2)) (fun h3 =>
bz (1 : Int32) (some ((1 : Int32), h3))))))
theorem cyX0_keepOff : Callee yX0_keepOff 2 := by unfold Callee; decide +kernel
set_option maxHeartbeats 4000000 in
theorem ctX0_keepOff (l : Launch) (D : va_G) (ad : Nat → Nat) (dA : Nat → ClassId) (tt : (Nat → Option Nat) × (Nat → Option Nat) × va_W) (h : Hp) (x1 : Int32) (x2 : Int32) (r : Int32) (h' : Hp) (hm : mX0_keepOff h x1 x2 = some (r, h')) : CT l yX0_keepOff cX0_keepOff 3 (some .boolean) D dA 2 41 0 0 (wX ad dA tt h) [.ref (ad 100), .int x1, .int x2] (some (.int r)) (wX ad dA tt h') := by
  refine ct_open (by decide) (Nat.le_of_ble_eq_true rfl) ?_
  intro G X hI hZ hV hR
  have hRet := fun hv => hZ rfl r hv rfl
  refine (show TM G (r, h') (mX0_keepOff h x1 x2) (wX ad dA tt h) 0 0 0 [(0, .ref (ad 100)), (1, .int x1), (2, .int x2)] [] from ?_) hm
  clear hm hI hZ hV hR
  unfold mX0_keepOff
  refine tm_iload_n X 1 dX0_keepOff_0 rfl rfl ?_
  refine tm_cl1 (fun r1 e2 => ?_)
  refine tm_callSi (As := [.int x1]) (rest := []) X (ctX0_isPlace l D dA x1 r1 e2) (lw_S q314 q315 q117 q316) cyX0_isPlace rfl ⟨(Nat.le_of_ble_eq_true rfl), (Nat.le_of_ble_eq_true rfl)⟩ (Nat.le_of_ble_eq_true rfl) dX0_keepOff_1 ⟨Nat.le_of_ble_eq_true rfl, Nat.le_of_ble_eq_true rfl⟩ rfl ?_
  refine tm_if_ne X 9 dX0_keepOff_4 rfl ?_ ?_
  · skip
    refine tm_aload_n X 0 dX0_keepOff_9 rfl rfl ?_
    refine tm_getR X (frX_100_1 ad dA tt h) in_X0 rfl (Nat.le_of_ble_eq_true rfl) q235 rfl dX0_keepOff_10 ?_
    refine tm_iload_n X 1 dX0_keepOff_13 rfl rfl ?_
    refine tm_iload_n X 2 dX0_keepOff_14 rfl rfl ?_
    refine tm_bastoreZ X (arX_1 ad dA tt) dX0_keepOff_15 (fun h3 => ?_)
    refine tm_iconst X (1 : Int32) dX0_keepOff_16 (by decide) ?_
    exact tm_retZH (wf := wX ad dA tt) hRet dX0_keepOff_17
  · skip
    refine tm_iconst X (0 : Int32) dX0_keepOff_7 (by decide) ?_
    exact tm_retZH (wf := wX ad dA tt) hRet dX0_keepOff_8
def mX0_push (h : Hp) (x1 : Int32) : Option (Hp) :=
fx FU (fun _ _ => none) (fun k3 (x2_1 : Int32) (h2 : Hp) =>
if x2_1 < 0 then (
some h2) else (
ck (h2 100 10) 260 (nm (u2 h2 8 (h2 100 10).toNatClampNeg (vp_nar .byte ((x1 >>> (x2_1 &&& 31)).toInt8.toInt32))) (fun h3 =>
nm (u2 h3 100 10 ((h3 100 10) + (1 : Int32))) (fun h4 =>
k3 (x2_1 + (-8 : Int32)) h4))))) (24 : Int32) h
theorem cyX0_push : Callee yX0_push 1 := by unfold Callee; decide +kernel
set_option maxHeartbeats 4000000 in
theorem ctX0_push (l : Launch) (D : va_G) (ad : Nat → Nat) (dA : Nat → ClassId) (tt : (Nat → Option Nat) × (Nat → Option Nat) × va_W) (h : Hp) (x1 : Int32) (h' : Hp) (hm : mX0_push h x1 = some h') : CT l yX0_push cX0_push 3 none D dA 0 0 0 0 (wX ad dA tt h) [.ref (ad 100), .int x1] none (wX ad dA tt h') := by
  refine ct_open (by decide) (Nat.le_of_ble_eq_true rfl) ?_
  intro G X hI hZ hV hR
  have hRet := hV rfl rfl
  refine (show TM G h' (mX0_push h x1) (wX ad dA tt h) 0 0 0 [(0, .ref (ad 100)), (1, .int x1)] [] from ?_) hm
  clear hm hI hZ hV hR
  unfold mX0_push
  refine tm_bipush X (24 : Int32) dX0_push_0 (by decide) ?_
  refine tm_istore_n X [(2, .int (24 : Int32)), (0, .ref (ad 100)), (1, .int x1)] dX0_push_2 rfl (Nat.le_of_ble_eq_true rfl) rfl ?_
  refine tm_lv X [1, 2, 0] rfl ?_
  refine fx_P (fun (k : Int32 → Hp → Option (Hp)) => ∀ (x2_1 : Int32) (h2 : Hp), TM G h' (k x2_1 h2) (wX ad dA tt h2) 0 0 3 [(0, .ref (ad 100)), (1, .int x1), (2, .int x2_1)] []) (fun _ _ => tm_none) (fun k3 hk3 x2_1 h2 => ?_) FU (24 : Int32) h
  refine tm_iload_n X 2 dX0_push_3 rfl rfl ?_
  refine tm_if_lt X 36 dX0_push_4 rfl ?_ ?_
  · skip
    exact tm_retV (wf := wX ad dA tt) hRet dX0_push_36
  · skip
    refine tm_aload_n X 0 dX0_push_7 rfl rfl ?_
    refine tm_getR X (frX_100_8 ad dA tt h2) in_X0 rfl (Nat.le_of_ble_eq_true rfl) q247 rfl dX0_push_8 ?_
    refine tm_aload_n X 0 dX0_push_11 rfl rfl ?_
    refine tm_getI X (fiX_100_10 ad dA tt) in_X0 rfl (Nat.le_of_ble_eq_true rfl) q250 rfl dX0_push_12 ?_
    refine tm_iload_n X 1 dX0_push_15 rfl rfl ?_
    refine tm_iload_n X 2 dX0_push_16 rfl rfl ?_
    refine tm_ishr X dX0_push_17 ?_
    refine tm_i2b X dX0_push_18 ?_
    refine tm_bastoreB X (arX_8 ad dA tt) dX0_push_19 (fun h3 => ?_)
    refine tm_aload_n X 0 dX0_push_20 rfl rfl ?_
    refine tm_dup X dX0_push_21 rfl ?_
    refine tm_getI X (fiX_100_10 ad dA tt) in_X0 rfl (Nat.le_of_ble_eq_true rfl) q250 rfl dX0_push_22 ?_
    refine tm_iconst X (1 : Int32) dX0_push_25 (by decide) ?_
    refine tm_iadd X dX0_push_26 ?_
    refine tm_putI X (fiX_100_10 ad dA tt) in_X0 rfl (Nat.le_of_ble_eq_true rfl) tyX0 tyX0_ok nmX0 rfl rfl q250 rfl dX0_push_27 (fun h4 => ?_)
    refine tm_iinc (v := (-8 : Int32)) X 2 [(2, .int (x2_1 + (-8 : Int32))), (0, .ref (ad 100)), (1, .int x1)] dX0_push_30 rfl (by decide) (Nat.le_of_ble_eq_true rfl) rfl ?_
    refine tm_goto X 3 dX0_push_33 rfl ?_
    refine tm_lv X [1, 2, 0] rfl ?_
    exact hk3 (x2_1 + (-8 : Int32)) h4
def mX0_feed (h : Hp) (x1 : Int32) (x2 : Int32) (x3 : Int32) (x4 : Int32) (x5 : Int32) : Option (Int32 × Hp) :=
if ((h 100 10) + (20 : Int32)) ≤ (260 : Int32) then (
cl1 (mX0_push h x1) (fun h2 =>
cl1 (mX0_push h2 x2) (fun h4 =>
cl1 (mX0_push h4 x3) (fun h6 =>
cl1 (mX0_push h6 x4) (fun h8 =>
cl1 (mX0_push h8 x5) (fun h10 =>
some ((h10 100 10), h10))))))) else (
some ((-1 : Int32), h))
theorem cyX0_feed : Callee yX0_feed 5 := by unfold Callee; decide +kernel
set_option maxHeartbeats 4000000 in
theorem ctX0_feed (l : Launch) (D : va_G) (ad : Nat → Nat) (dA : Nat → ClassId) (tt : (Nat → Option Nat) × (Nat → Option Nat) × va_W) (h : Hp) (x1 : Int32) (x2 : Int32) (x3 : Int32) (x4 : Int32) (x5 : Int32) (r : Int32) (h' : Hp) (hm : mX0_feed h x1 x2 x3 x4 x5 = some (r, h')) : CT l yX0_feed cX0_feed 6 (some .int) D dA 1 22 0 0 (wX ad dA tt h) [.ref (ad 100), .int x1, .int x2, .int x3, .int x4, .int x5] (some (.int r)) (wX ad dA tt h') := by
  refine ct_open (by decide) (Nat.le_of_ble_eq_true rfl) ?_
  intro G X hI hZ hV hR
  have hRet := hI rfl r rfl
  refine (show TM G (r, h') (mX0_feed h x1 x2 x3 x4 x5) (wX ad dA tt h) 0 0 0 [(0, .ref (ad 100)), (1, .int x1), (2, .int x2), (3, .int x3), (4, .int x4), (5, .int x5)] [] from ?_) hm
  clear hm hI hZ hV hR
  unfold mX0_feed
  refine tm_aload_n X 0 dX0_feed_0 rfl rfl ?_
  refine tm_getI X (fiX_100_10 ad dA tt) in_X0 rfl (Nat.le_of_ble_eq_true rfl) q250 rfl dX0_feed_1 ?_
  refine tm_bipush X (20 : Int32) dX0_feed_4 (by decide) ?_
  refine tm_iadd X dX0_feed_6 ?_
  refine tm_sipush X (260 : Int32) dX0_feed_7 (by decide) ?_
  refine tm_ic_le X 15 dX0_feed_10 rfl ?_ ?_
  · skip
    refine tm_aload_n X 0 dX0_feed_15 rfl rfl ?_
    refine tm_iload_n X 1 dX0_feed_16 rfl rfl ?_
    refine tm_cl1 (fun h2 e1 => ?_)
    refine tm_callVv (As := [.int x1]) (rest := []) (q0 := 0) X (ctX0_push l D ad dA tt h x1 h2 e1) (lw_V q328 q330 qs0 q117 q331) cyX0_push rfl rfl rfl ⟨(Nat.le_of_ble_eq_true rfl), (Nat.le_of_ble_eq_true rfl)⟩ (Nat.le_of_ble_eq_true rfl) dX0_feed_17 ⟨Nat.le_of_ble_eq_true rfl, Nat.le_of_ble_eq_true rfl⟩ rfl ?_
    refine tm_aload_n X 0 dX0_feed_20 rfl rfl ?_
    refine tm_iload_n X 2 dX0_feed_21 rfl rfl ?_
    refine tm_cl1 (fun h4 e3 => ?_)
    refine tm_callVv (As := [.int x2]) (rest := []) (q0 := 0) X (ctX0_push l D ad dA tt h2 x2 h4 e3) (lw_V q328 q330 qs0 q117 q331) cyX0_push rfl rfl rfl ⟨(Nat.le_of_ble_eq_true rfl), (Nat.le_of_ble_eq_true rfl)⟩ (Nat.le_of_ble_eq_true rfl) dX0_feed_22 ⟨Nat.le_of_ble_eq_true rfl, Nat.le_of_ble_eq_true rfl⟩ rfl ?_
    refine tm_aload_n X 0 dX0_feed_25 rfl rfl ?_
    refine tm_iload_n X 3 dX0_feed_26 rfl rfl ?_
    refine tm_cl1 (fun h6 e5 => ?_)
    refine tm_callVv (As := [.int x3]) (rest := []) (q0 := 0) X (ctX0_push l D ad dA tt h4 x3 h6 e5) (lw_V q328 q330 qs0 q117 q331) cyX0_push rfl rfl rfl ⟨(Nat.le_of_ble_eq_true rfl), (Nat.le_of_ble_eq_true rfl)⟩ (Nat.le_of_ble_eq_true rfl) dX0_feed_27 ⟨Nat.le_of_ble_eq_true rfl, Nat.le_of_ble_eq_true rfl⟩ rfl ?_
    refine tm_aload_n X 0 dX0_feed_30 rfl rfl ?_
    refine tm_iload X 4 dX0_feed_31 rfl ?_
    refine tm_cl1 (fun h8 e7 => ?_)
    refine tm_callVv (As := [.int x4]) (rest := []) (q0 := 0) X (ctX0_push l D ad dA tt h6 x4 h8 e7) (lw_V q328 q330 qs0 q117 q331) cyX0_push rfl rfl rfl ⟨(Nat.le_of_ble_eq_true rfl), (Nat.le_of_ble_eq_true rfl)⟩ (Nat.le_of_ble_eq_true rfl) dX0_feed_33 ⟨Nat.le_of_ble_eq_true rfl, Nat.le_of_ble_eq_true rfl⟩ rfl ?_
    refine tm_aload_n X 0 dX0_feed_36 rfl rfl ?_
    refine tm_iload X 5 dX0_feed_37 rfl ?_
    refine tm_cl1 (fun h10 e9 => ?_)
    refine tm_callVv (As := [.int x5]) (rest := []) (q0 := 0) X (ctX0_push l D ad dA tt h8 x5 h10 e9) (lw_V q328 q330 qs0 q117 q331) cyX0_push rfl rfl rfl ⟨(Nat.le_of_ble_eq_true rfl), (Nat.le_of_ble_eq_true rfl)⟩ (Nat.le_of_ble_eq_true rfl) dX0_feed_39 ⟨Nat.le_of_ble_eq_true rfl, Nat.le_of_ble_eq_true rfl⟩ rfl ?_
    refine tm_aload_n X 0 dX0_feed_42 rfl rfl ?_
    refine tm_getI X (fiX_100_10 ad dA tt) in_X0 rfl (Nat.le_of_ble_eq_true rfl) q250 rfl dX0_feed_43 ?_
    exact tm_retIH (wf := wX ad dA tt) hRet dX0_feed_46
  · skip
    refine tm_iconst X (-1 : Int32) dX0_feed_13 (by decide) ?_
    exact tm_retIH (wf := wX ad dA tt) hRet dX0_feed_14
def mX0_sideOf (x0 : Int32) : Option (Int32) :=
some ((jrem x0 (9 : Int32)) - (4 : Int32))
theorem cyX0_sideOf : Callee yX0_sideOf 1 := by unfold Callee; decide +kernel
set_option maxHeartbeats 4000000 in
theorem ctX0_sideOf (l : Launch) (D : va_G) (dA : Nat → ClassId) (x0 : Int32) (r : Int32) (hm : mX0_sideOf x0 = some r) : CT l yX0_sideOf cX0_sideOf 1 (some .int) D dA 0 0 0 0 [] [.int x0] (some (.int r)) [] := by
  refine ct_open (by decide) (Nat.le_of_ble_eq_true rfl) ?_
  intro G X hI hZ hV hR
  have hRet := hI rfl r rfl
  refine (show TM G r (mX0_sideOf x0) [] 0 0 0 [(0, .int x0)] [] from ?_) hm
  clear hm hI hZ hV hR
  unfold mX0_sideOf
  refine tm_iload_n X 0 dX0_sideOf_0 rfl rfl ?_
  refine tm_bipush X (9 : Int32) dX0_sideOf_1 (by decide) ?_
  refine tm_irem X dX0_sideOf_3 (by decide) ?_
  refine tm_iconst X (4 : Int32) dX0_sideOf_4 (by decide) ?_
  refine tm_isub X dX0_sideOf_5 ?_
  exact tm_retI hRet dX0_sideOf_6
def mX0_aheadOf (x0 : Int32) : Option (Int32) :=
some ((x0 / (9 : Int32)) - (3 : Int32))
theorem cyX0_aheadOf : Callee yX0_aheadOf 1 := by unfold Callee; decide +kernel
set_option maxHeartbeats 4000000 in
theorem ctX0_aheadOf (l : Launch) (D : va_G) (dA : Nat → ClassId) (x0 : Int32) (r : Int32) (hm : mX0_aheadOf x0 = some r) : CT l yX0_aheadOf cX0_aheadOf 1 (some .int) D dA 0 0 0 0 [] [.int x0] (some (.int r)) [] := by
  refine ct_open (by decide) (Nat.le_of_ble_eq_true rfl) ?_
  intro G X hI hZ hV hR
  have hRet := hI rfl r rfl
  refine (show TM G r (mX0_aheadOf x0) [] 0 0 0 [(0, .int x0)] [] from ?_) hm
  clear hm hI hZ hV hR
  unfold mX0_aheadOf
  refine tm_iload_n X 0 dX0_aheadOf_0 rfl rfl ?_
  refine tm_bipush X (9 : Int32) dX0_aheadOf_1 (by decide) ?_
  refine tm_idiv X dX0_aheadOf_3 (by decide) ?_
  refine tm_iconst X (3 : Int32) dX0_aheadOf_4 (by decide) ?_
  refine tm_isub X dX0_aheadOf_5 ?_
  exact tm_retI hRet dX0_aheadOf_6
def mX0_isGlide (x0 : Int32) (x1 : Int32) : Option (Int32) :=
cl1 (mX0_within x0 (-4 : Int32) (4 : Int32)) (fun r1 =>
nm (fun (s3 : Int32) =>
bz s3 (some s3)) (fun k25 =>
nm (
k25 (0 : Int32)) (fun k24 =>
if r1 = 0 then (
k24) else (
cl1 (mX0_within x1 (-3 : Int32) (3 : Int32)) (fun r4 =>
if r4 = 0 then (
k24) else (
k25 (1 : Int32)))))))
theorem cyX0_isGlide : Callee yX0_isGlide 2 := by unfold Callee; decide +kernel
set_option maxHeartbeats 4000000 in
theorem ctX0_isGlide (l : Launch) (D : va_G) (dA : Nat → ClassId) (x0 : Int32) (x1 : Int32) (r : Int32) (hm : mX0_isGlide x0 x1 = some r) : CT l yX0_isGlide cX0_isGlide 2 (some .boolean) D dA 1 22 0 0 [] [.int x0, .int x1] (some (.int r)) [] := by
  refine ct_open (by decide) (Nat.le_of_ble_eq_true rfl) ?_
  intro G X hI hZ hV hR
  have hRet := fun hv => hZ rfl r hv rfl
  refine (show TM G r (mX0_isGlide x0 x1) [] 0 0 0 [(0, .int x0), (1, .int x1)] [] from ?_) hm
  clear hm hI hZ hV hR
  unfold mX0_isGlide
  refine tm_iload_n X 0 dX0_isGlide_0 rfl rfl ?_
  refine tm_bipush X (-4 : Int32) dX0_isGlide_1 (by decide) ?_
  refine tm_iconst X (4 : Int32) dX0_isGlide_3 (by decide) ?_
  refine tm_cl1 (fun r1 e2 => ?_)
  refine tm_callSi (As := [.int x0, .int (-4 : Int32), .int (4 : Int32)]) (rest := []) X (ctX0_within l D dA x0 (-4 : Int32) (4 : Int32) r1 e2) (lw_S q317 q318 q117 q319) cyX0_within rfl ⟨(Nat.le_of_ble_eq_true rfl), (Nat.le_of_ble_eq_true rfl)⟩ (Nat.le_of_ble_eq_true rfl) dX0_isGlide_4 ⟨Nat.le_of_ble_eq_true rfl, Nat.le_of_ble_eq_true rfl⟩ rfl ?_
  refine tm_let (fun k => ∀ (s3 : Int32), TM G r (k s3) [] 0 0 25 [] [.int s3]) ?_ (fun k25 hk25 => ?_)
  · intro s3
    exact tm_retZ hRet dX0_isGlide_25
  · skip
    refine tm_let (fun k => TM G r k [] 0 0 24 [] []) ?_ (fun k24 hk24 => ?_)
    · skip
      refine tm_iconst X (0 : Int32) dX0_isGlide_24 (by decide) ?_
      exact hk25 (0 : Int32)
    · skip
      refine tm_if_eq X 24 dX0_isGlide_7 rfl ?_ ?_
      · skip
        refine tm_lv X [] rfl ?_
        exact hk24
      · skip
        refine tm_iload_n X 1 dX0_isGlide_10 rfl rfl ?_
        refine tm_bipush X (-3 : Int32) dX0_isGlide_11 (by decide) ?_
        refine tm_iconst X (3 : Int32) dX0_isGlide_13 (by decide) ?_
        refine tm_cl1 (fun r4 e5 => ?_)
        refine tm_callSi (As := [.int x1, .int (-3 : Int32), .int (3 : Int32)]) (rest := []) X (ctX0_within l D dA x1 (-3 : Int32) (3 : Int32) r4 e5) (lw_S q317 q318 q117 q319) cyX0_within rfl ⟨(Nat.le_of_ble_eq_true rfl), (Nat.le_of_ble_eq_true rfl)⟩ (Nat.le_of_ble_eq_true rfl) dX0_isGlide_14 ⟨Nat.le_of_ble_eq_true rfl, Nat.le_of_ble_eq_true rfl⟩ rfl ?_
        refine tm_if_eq X 24 dX0_isGlide_17 rfl ?_ ?_
        · skip
          refine tm_lv X [] rfl ?_
          exact hk24
        · skip
          refine tm_iconst X (1 : Int32) dX0_isGlide_20 (by decide) ?_
          refine tm_goto X 25 dX0_isGlide_21 rfl ?_
          refine tm_lv X [] rfl ?_
          exact hk25 (1 : Int32)
def mX0_glideAt (x0 : Int32) (x1 : Int32) : Option (Int32) :=
some ((((9 : Int32) * (x1 + (3 : Int32))) + x0) + (4 : Int32))
theorem cyX0_glideAt : Callee yX0_glideAt 2 := by unfold Callee; decide +kernel
set_option maxHeartbeats 4000000 in
theorem ctX0_glideAt (l : Launch) (D : va_G) (dA : Nat → ClassId) (x0 : Int32) (x1 : Int32) (r : Int32) (hm : mX0_glideAt x0 x1 = some r) : CT l yX0_glideAt cX0_glideAt 2 (some .int) D dA 0 0 0 0 [] [.int x0, .int x1] (some (.int r)) [] := by
  refine ct_open (by decide) (Nat.le_of_ble_eq_true rfl) ?_
  intro G X hI hZ hV hR
  have hRet := hI rfl r rfl
  refine (show TM G r (mX0_glideAt x0 x1) [] 0 0 0 [(0, .int x0), (1, .int x1)] [] from ?_) hm
  clear hm hI hZ hV hR
  unfold mX0_glideAt
  refine tm_bipush X (9 : Int32) dX0_glideAt_0 (by decide) ?_
  refine tm_iload_n X 1 dX0_glideAt_2 rfl rfl ?_
  refine tm_iconst X (3 : Int32) dX0_glideAt_3 (by decide) ?_
  refine tm_iadd X dX0_glideAt_4 ?_
  refine tm_imul X dX0_glideAt_5 ?_
  refine tm_iload_n X 0 dX0_glideAt_6 rfl rfl ?_
  refine tm_iadd X dX0_glideAt_7 ?_
  refine tm_iconst X (4 : Int32) dX0_glideAt_8 (by decide) ?_
  refine tm_iadd X dX0_glideAt_9 ?_
  exact tm_retI hRet dX0_glideAt_10
def mX0_stepped (x0 : Int32) (x1 : Int32) : Option (Int32) :=
cl1 (mX0_sideOf x0) (fun r1 =>
nm (fun (s3 : Int32) =>
nm ((r1 + s3)) (fun v4 =>
cl1 (mX0_aheadOf x0) (fun r5 =>
nm (fun (s7 : Int32) =>
nm ((r5 + s7)) (fun v8 =>
cl1 (mX0_isGlide v4 v8) (fun r9 =>
nm (fun (s11 : Int32) =>
some s11) (fun k66 =>
if r9 = 0 then (
k66 (-1 : Int32)) else (
cl1 (mX0_glideAt v4 v8) (fun r12 =>
k66 r12)))))) (fun k47 =>
if x1 = (2 : Int32) then (
k47 (-1 : Int32)) else (
if x1 = (3 : Int32) then (
k47 (1 : Int32)) else (
k47 (0 : Int32))))))) (fun k22 =>
if x1 = 0 then (
k22 (-1 : Int32)) else (
if x1 = (1 : Int32) then (
k22 (1 : Int32)) else (
k22 (0 : Int32)))))
theorem cyX0_stepped : Callee yX0_stepped 2 := by unfold Callee; decide +kernel
set_option maxHeartbeats 4000000 in
theorem ctX0_stepped (l : Launch) (D : va_G) (dA : Nat → ClassId) (x0 : Int32) (x1 : Int32) (r : Int32) (hm : mX0_stepped x0 x1 = some r) : CT l yX0_stepped cX0_stepped 4 (some .int) D dA 2 43 0 0 [] [.int x0, .int x1] (some (.int r)) [] := by
  refine ct_open (by decide) (Nat.le_of_ble_eq_true rfl) ?_
  intro G X hI hZ hV hR
  have hRet := hI rfl r rfl
  refine (show TM G r (mX0_stepped x0 x1) [] 0 0 0 [(0, .int x0), (1, .int x1)] [] from ?_) hm
  clear hm hI hZ hV hR
  unfold mX0_stepped
  refine tm_iload_n X 0 dX0_stepped_0 rfl rfl ?_
  refine tm_cl1 (fun r1 e2 => ?_)
  refine tm_callSi (As := [.int x0]) (rest := []) X (ctX0_sideOf l D dA x0 r1 e2) (lw_S q798 q799 q117 q800) cyX0_sideOf rfl ⟨(Nat.le_of_ble_eq_true rfl), (Nat.le_of_ble_eq_true rfl)⟩ (Nat.le_of_ble_eq_true rfl) dX0_stepped_1 ⟨Nat.le_of_ble_eq_true rfl, Nat.le_of_ble_eq_true rfl⟩ rfl ?_
  refine tm_iload_n X 1 dX0_stepped_4 rfl rfl ?_
  refine tm_let (fun k => ∀ (s3 : Int32), TM G r (k s3) [] 0 0 22 [(0, .int x0), (1, .int x1)] [.int s3, .int r1]) ?_ (fun k22 hk22 => ?_)
  · intro s3
    refine tm_iadd X dX0_stepped_22 ?_
    refine tm_nmI (fun v4 => ?_)
    refine tm_istore_n X [(2, .int v4), (0, .int x0), (1, .int x1)] dX0_stepped_23 rfl (Nat.le_of_ble_eq_true rfl) rfl ?_
    refine tm_iload_n X 1 dX0_stepped_24 rfl rfl ?_
    refine tm_cl1 (fun r5 e6 => ?_)
    refine tm_callSi (As := [.int x0]) (rest := []) X (ctX0_aheadOf l D dA x0 r5 e6) (lw_S q801 q802 q117 q803) cyX0_aheadOf rfl ⟨(Nat.le_of_ble_eq_true rfl), (Nat.le_of_ble_eq_true rfl)⟩ (Nat.le_of_ble_eq_true rfl) dX0_stepped_25 ⟨Nat.le_of_ble_eq_true rfl, Nat.le_of_ble_eq_true rfl⟩ rfl ?_
    refine tm_iload_n X 2 dX0_stepped_28 rfl rfl ?_
    refine tm_iconst X (2 : Int32) dX0_stepped_29 (by decide) ?_
    refine tm_let (fun k => ∀ (s7 : Int32), TM G r (k s7) [] 0 0 47 [(2, .int v4)] [.int s7, .int r5]) ?_ (fun k47 hk47 => ?_)
    · intro s7
      refine tm_iadd X dX0_stepped_47 ?_
      refine tm_nmI (fun v8 => ?_)
      refine tm_istore_n X [(3, .int v8), (2, .int v4)] dX0_stepped_48 rfl (Nat.le_of_ble_eq_true rfl) rfl ?_
      refine tm_iload_n X 1 dX0_stepped_49 rfl rfl ?_
      refine tm_iload_n X 0 dX0_stepped_50 rfl rfl ?_
      refine tm_cl1 (fun r9 e10 => ?_)
      refine tm_callSi (As := [.int v4, .int v8]) (rest := []) X (ctX0_isGlide l D dA v4 v8 r9 e10) (lw_S q804 q805 q117 q806) cyX0_isGlide rfl ⟨(Nat.le_of_ble_eq_true rfl), (Nat.le_of_ble_eq_true rfl)⟩ (Nat.le_of_ble_eq_true rfl) dX0_stepped_51 ⟨Nat.le_of_ble_eq_true rfl, Nat.le_of_ble_eq_true rfl⟩ rfl ?_
      refine tm_let (fun k => ∀ (s11 : Int32), TM G r (k s11) [] 0 0 66 [] [.int s11]) ?_ (fun k66 hk66 => ?_)
      · intro s11
        exact tm_retI hRet dX0_stepped_66
      · skip
        refine tm_if_eq X 65 dX0_stepped_54 rfl ?_ ?_
        · skip
          refine tm_iconst X (-1 : Int32) dX0_stepped_65 (by decide) ?_
          refine tm_lv X [] rfl ?_
          exact hk66 (-1 : Int32)
        · skip
          refine tm_iload_n X 1 dX0_stepped_57 rfl rfl ?_
          refine tm_iload_n X 0 dX0_stepped_58 rfl rfl ?_
          refine tm_cl1 (fun r12 e13 => ?_)
          refine tm_callSi (As := [.int v4, .int v8]) (rest := []) X (ctX0_glideAt l D dA v4 v8 r12 e13) (lw_S q807 q808 q117 q809) cyX0_glideAt rfl ⟨(Nat.le_of_ble_eq_true rfl), (Nat.le_of_ble_eq_true rfl)⟩ (Nat.le_of_ble_eq_true rfl) dX0_stepped_59 ⟨Nat.le_of_ble_eq_true rfl, Nat.le_of_ble_eq_true rfl⟩ rfl ?_
          refine tm_goto X 66 dX0_stepped_62 rfl ?_
          refine tm_lv X [] rfl ?_
          exact hk66 r12
    · skip
      refine tm_ic_ne X 37 dX0_stepped_30 rfl ?_ ?_
      · skip
        refine tm_iload_n X 2 dX0_stepped_37 rfl rfl ?_
        refine tm_iconst X (3 : Int32) dX0_stepped_38 (by decide) ?_
        refine tm_ic_ne X 46 dX0_stepped_39 rfl ?_ ?_
        · skip
          refine tm_iconst X (0 : Int32) dX0_stepped_46 (by decide) ?_
          refine tm_lv X [0] rfl ?_
          exact hk47 (0 : Int32)
        · skip
          refine tm_iconst X (1 : Int32) dX0_stepped_42 (by decide) ?_
          refine tm_goto X 47 dX0_stepped_43 rfl ?_
          refine tm_lv X [0] rfl ?_
          exact hk47 (1 : Int32)
      · skip
        refine tm_iconst X (-1 : Int32) dX0_stepped_33 (by decide) ?_
        refine tm_goto X 47 dX0_stepped_34 rfl ?_
        refine tm_lv X [0] rfl ?_
        exact hk47 (-1 : Int32)
  · skip
    refine tm_if_ne X 12 dX0_stepped_5 rfl ?_ ?_
    · skip
      refine tm_iload_n X 1 dX0_stepped_12 rfl rfl ?_
      refine tm_iconst X (1 : Int32) dX0_stepped_13 (by decide) ?_
      refine tm_ic_ne X 21 dX0_stepped_14 rfl ?_ ?_
      · skip
        refine tm_iconst X (0 : Int32) dX0_stepped_21 (by decide) ?_
        exact hk22 (0 : Int32)
      · skip
        refine tm_iconst X (1 : Int32) dX0_stepped_17 (by decide) ?_
        refine tm_goto X 22 dX0_stepped_18 rfl ?_
        exact hk22 (1 : Int32)
    · skip
      refine tm_iconst X (-1 : Int32) dX0_stepped_8 (by decide) ?_
      refine tm_goto X 22 dX0_stepped_9 rfl ?_
      exact hk22 (-1 : Int32)
def mX0_placeAt (x0 : Int32) (x1 : Int32) : Option (Int32) :=
cl1 (mX0_in x0 (8 : Int32)) (fun r1 =>
nm (fun (s3 : Int32) =>
some s3) (fun k28 =>
nm (
k28 (-1 : Int32)) (fun k27 =>
if r1 = 0 then (
k27) else (
cl1 (mX0_in x1 (6 : Int32)) (fun r4 =>
if r4 = 0 then (
k27) else (
k28 (((8 : Int32) * x1) + x0)))))))
theorem cyX0_placeAt : Callee yX0_placeAt 2 := by unfold Callee; decide +kernel
set_option maxHeartbeats 4000000 in
theorem ctX0_placeAt (l : Launch) (D : va_G) (dA : Nat → ClassId) (x0 : Int32) (x1 : Int32) (r : Int32) (hm : mX0_placeAt x0 x1 = some r) : CT l yX0_placeAt cX0_placeAt 2 (some .int) D dA 1 21 0 0 [] [.int x0, .int x1] (some (.int r)) [] := by
  refine ct_open (by decide) (Nat.le_of_ble_eq_true rfl) ?_
  intro G X hI hZ hV hR
  have hRet := hI rfl r rfl
  refine (show TM G r (mX0_placeAt x0 x1) [] 0 0 0 [(0, .int x0), (1, .int x1)] [] from ?_) hm
  clear hm hI hZ hV hR
  unfold mX0_placeAt
  refine tm_iload_n X 0 dX0_placeAt_0 rfl rfl ?_
  refine tm_bipush X (8 : Int32) dX0_placeAt_1 (by decide) ?_
  refine tm_cl1 (fun r1 e2 => ?_)
  refine tm_callSi (As := [.int x0, .int (8 : Int32)]) (rest := []) X (ctX0_in l D dA x0 (8 : Int32) r1 e2) (lw_S q311 q312 q117 q313) cyX0_in rfl ⟨(Nat.le_of_ble_eq_true rfl), (Nat.le_of_ble_eq_true rfl)⟩ (Nat.le_of_ble_eq_true rfl) dX0_placeAt_3 ⟨Nat.le_of_ble_eq_true rfl, Nat.le_of_ble_eq_true rfl⟩ rfl ?_
  refine tm_let (fun k => ∀ (s3 : Int32), TM G r (k s3) [] 0 0 28 [] [.int s3]) ?_ (fun k28 hk28 => ?_)
  · intro s3
    exact tm_retI hRet dX0_placeAt_28
  · skip
    refine tm_let (fun k => TM G r k [] 0 0 27 [] []) ?_ (fun k27 hk27 => ?_)
    · skip
      refine tm_iconst X (-1 : Int32) dX0_placeAt_27 (by decide) ?_
      exact hk28 (-1 : Int32)
    · skip
      refine tm_if_eq X 27 dX0_placeAt_6 rfl ?_ ?_
      · skip
        refine tm_lv X [] rfl ?_
        exact hk27
      · skip
        refine tm_iload_n X 1 dX0_placeAt_9 rfl rfl ?_
        refine tm_bipush X (6 : Int32) dX0_placeAt_10 (by decide) ?_
        refine tm_cl1 (fun r4 e5 => ?_)
        refine tm_callSi (As := [.int x1, .int (6 : Int32)]) (rest := []) X (ctX0_in l D dA x1 (6 : Int32) r4 e5) (lw_S q311 q312 q117 q313) cyX0_in rfl ⟨(Nat.le_of_ble_eq_true rfl), (Nat.le_of_ble_eq_true rfl)⟩ (Nat.le_of_ble_eq_true rfl) dX0_placeAt_12 ⟨Nat.le_of_ble_eq_true rfl, Nat.le_of_ble_eq_true rfl⟩ rfl ?_
        refine tm_if_eq X 27 dX0_placeAt_15 rfl ?_ ?_
        · skip
          refine tm_lv X [] rfl ?_
          exact hk27
        · skip
          refine tm_bipush X (8 : Int32) dX0_placeAt_18 (by decide) ?_
          refine tm_iload_n X 1 dX0_placeAt_20 rfl rfl ?_
          refine tm_imul X dX0_placeAt_21 ?_
          refine tm_iload_n X 0 dX0_placeAt_22 rfl rfl ?_
          refine tm_iadd X dX0_placeAt_23 ?_
          refine tm_goto X 28 dX0_placeAt_24 rfl ?_
          refine tm_lv X [] rfl ?_
          exact hk28 (((8 : Int32) * x1) + x0)
def mX0_facing (x0 : Int32) (x1 : Int32) : Option (Int32) :=
cl1 (mX0_sideOf x1) (fun r1 =>
cl1 (mX0_aheadOf x1) (fun r3 =>
cl1 (mX0_placeAt ((jrem x0 (8 : Int32)) - r1) ((x0 / (8 : Int32)) - r3)) (fun r5 =>
some r5)))
theorem cyX0_facing : Callee yX0_facing 2 := by unfold Callee; decide +kernel
set_option maxHeartbeats 4000000 in
theorem ctX0_facing (l : Launch) (D : va_G) (dA : Nat → ClassId) (x0 : Int32) (x1 : Int32) (r : Int32) (hm : mX0_facing x0 x1 = some r) : CT l yX0_facing cX0_facing 2 (some .int) D dA 2 42 0 0 [] [.int x0, .int x1] (some (.int r)) [] := by
  refine ct_open (by decide) (Nat.le_of_ble_eq_true rfl) ?_
  intro G X hI hZ hV hR
  have hRet := hI rfl r rfl
  refine (show TM G r (mX0_facing x0 x1) [] 0 0 0 [(0, .int x0), (1, .int x1)] [] from ?_) hm
  clear hm hI hZ hV hR
  unfold mX0_facing
  refine tm_iload_n X 0 dX0_facing_0 rfl rfl ?_
  refine tm_bipush X (8 : Int32) dX0_facing_1 (by decide) ?_
  refine tm_irem X dX0_facing_3 (by decide) ?_
  refine tm_iload_n X 1 dX0_facing_4 rfl rfl ?_
  refine tm_cl1 (fun r1 e2 => ?_)
  refine tm_callSi (As := [.int x1]) (rest := [.int (jrem x0 (8 : Int32))]) X (ctX0_sideOf l D dA x1 r1 e2) (lw_S q798 q799 q117 q800) cyX0_sideOf rfl ⟨(Nat.le_of_ble_eq_true rfl), (Nat.le_of_ble_eq_true rfl)⟩ (Nat.le_of_ble_eq_true rfl) dX0_facing_5 ⟨Nat.le_of_ble_eq_true rfl, Nat.le_of_ble_eq_true rfl⟩ rfl ?_
  refine tm_isub X dX0_facing_8 ?_
  refine tm_iload_n X 0 dX0_facing_9 rfl rfl ?_
  refine tm_bipush X (8 : Int32) dX0_facing_10 (by decide) ?_
  refine tm_idiv X dX0_facing_12 (by decide) ?_
  refine tm_iload_n X 1 dX0_facing_13 rfl rfl ?_
  refine tm_cl1 (fun r3 e4 => ?_)
  refine tm_callSi (As := [.int x1]) (rest := [.int (x0 / (8 : Int32)), .int ((jrem x0 (8 : Int32)) - r1)]) X (ctX0_aheadOf l D dA x1 r3 e4) (lw_S q801 q802 q117 q803) cyX0_aheadOf rfl ⟨(Nat.le_of_ble_eq_true rfl), (Nat.le_of_ble_eq_true rfl)⟩ (Nat.le_of_ble_eq_true rfl) dX0_facing_14 ⟨Nat.le_of_ble_eq_true rfl, Nat.le_of_ble_eq_true rfl⟩ rfl ?_
  refine tm_isub X dX0_facing_17 ?_
  refine tm_cl1 (fun r5 e6 => ?_)
  refine tm_callSi (As := [.int ((jrem x0 (8 : Int32)) - r1), .int ((x0 / (8 : Int32)) - r3)]) (rest := []) X (ctX0_placeAt l D dA ((jrem x0 (8 : Int32)) - r1) ((x0 / (8 : Int32)) - r3) r5 e6) (lw_S q825 q826 q117 q827) cyX0_placeAt rfl ⟨(Nat.le_of_ble_eq_true rfl), (Nat.le_of_ble_eq_true rfl)⟩ (Nat.le_of_ble_eq_true rfl) dX0_facing_18 ⟨Nat.le_of_ble_eq_true rfl, Nat.le_of_ble_eq_true rfl⟩ rfl ?_
  exact tm_retI hRet dX0_facing_21
def mX3_sumAt (b : Nat) (h : Hp) (x1 : Int32) (x2 : Int32) : Option (Int32) :=
ck x1 48 (
cl1 (mX0_facing x1 x2) (fun r1 =>
ck r1 48 (
some ((h (b + 3) x1.toNatClampNeg) + (h (b + 2) r1.toNatClampNeg)))))
theorem cyX3_sumAt : Callee yX3_sumAt 2 := by unfold Callee; decide +kernel
set_option maxHeartbeats 4000000 in
theorem ctX3_sumAt_40 (l : Launch) (D : va_G) (ad : Nat → Nat) (dA : Nat → ClassId) (tt : (Nat → Option Nat) × (Nat → Option Nat) × va_W) (h : Hp) (x1 : Int32) (x2 : Int32) (r : Int32) (hm : mX3_sumAt 40 h x1 x2 = some r) : CT l yX3_sumAt cX3_sumAt 3 (some .int) D dA 3 63 0 0 (wX ad dA tt h) [.ref (ad 40), .int x1, .int x2] (some (.int r)) (wX ad dA tt h) := by
  refine ct_open (by decide) (Nat.le_of_ble_eq_true rfl) ?_
  intro G X hI hZ hV hR
  have hRet := hI rfl r rfl
  refine (show TM G r (mX3_sumAt 40 h x1 x2) (wX ad dA tt h) 0 0 0 [(0, .ref (ad 40)), (1, .int x1), (2, .int x2)] [] from ?_) hm
  clear hm hI hZ hV hR
  unfold mX3_sumAt
  refine tm_aload_n X 0 dX3_sumAt_0 rfl rfl ?_
  refine tm_getR X (frX_40_0 ad dA tt h) in_X3 rfl (Nat.le_of_ble_eq_true rfl) q178 rfl dX3_sumAt_1 ?_
  refine tm_iconst X (1 : Int32) dX3_sumAt_4 (by decide) ?_
  refine tm_aaloadL (j := 1) X (aaX_41 ad dA tt h) (by unfold vp_in; decide) (by decide) dX3_sumAt_5 ?_
  refine tm_iload_n X 1 dX3_sumAt_6 rfl rfl ?_
  refine tm_iaload X (arX_43 ad dA tt) dX3_sumAt_7 ?_
  refine tm_aload_n X 0 dX3_sumAt_8 rfl rfl ?_
  refine tm_getR X (frX_40_0 ad dA tt h) in_X3 rfl (Nat.le_of_ble_eq_true rfl) q178 rfl dX3_sumAt_9 ?_
  refine tm_iconst X (0 : Int32) dX3_sumAt_12 (by decide) ?_
  refine tm_aaloadL (j := 0) X (aaX_41 ad dA tt h) (by unfold vp_in; decide) (by decide) dX3_sumAt_13 ?_
  refine tm_iload_n X 1 dX3_sumAt_14 rfl rfl ?_
  refine tm_iload_n X 2 dX3_sumAt_15 rfl rfl ?_
  refine tm_cl1 (fun r1 e2 => ?_)
  refine tm_callSNi (As := [.int x1, .int x2]) (rest := [.ref (ad 42), .int (h 43 x1.toNatClampNeg)]) X (ctX0_facing l D dA x1 x2 r1 e2) q822 q823 q117 q824 cyX0_facing rfl ⟨(Nat.le_of_ble_eq_true rfl), (Nat.le_of_ble_eq_true rfl)⟩ (Nat.le_of_ble_eq_true rfl) dX3_sumAt_16 ⟨Nat.le_of_ble_eq_true rfl, Nat.le_of_ble_eq_true rfl⟩ rfl ?_
  refine tm_iaload X (arX_42 ad dA tt) dX3_sumAt_19 ?_
  refine tm_iadd X dX3_sumAt_20 ?_
  exact tm_retI hRet dX3_sumAt_21
set_option maxHeartbeats 4000000 in
theorem ctX3_sumAt_50 (l : Launch) (D : va_G) (ad : Nat → Nat) (dA : Nat → ClassId) (tt : (Nat → Option Nat) × (Nat → Option Nat) × va_W) (h : Hp) (x1 : Int32) (x2 : Int32) (r : Int32) (hm : mX3_sumAt 50 h x1 x2 = some r) : CT l yX3_sumAt cX3_sumAt 3 (some .int) D dA 3 63 0 0 (wX ad dA tt h) [.ref (ad 50), .int x1, .int x2] (some (.int r)) (wX ad dA tt h) := by
  refine ct_open (by decide) (Nat.le_of_ble_eq_true rfl) ?_
  intro G X hI hZ hV hR
  have hRet := hI rfl r rfl
  refine (show TM G r (mX3_sumAt 50 h x1 x2) (wX ad dA tt h) 0 0 0 [(0, .ref (ad 50)), (1, .int x1), (2, .int x2)] [] from ?_) hm
  clear hm hI hZ hV hR
  unfold mX3_sumAt
  refine tm_aload_n X 0 dX3_sumAt_0 rfl rfl ?_
  refine tm_getR X (frX_50_0 ad dA tt h) in_X3 rfl (Nat.le_of_ble_eq_true rfl) q178 rfl dX3_sumAt_1 ?_
  refine tm_iconst X (1 : Int32) dX3_sumAt_4 (by decide) ?_
  refine tm_aaloadL (j := 1) X (aaX_51 ad dA tt h) (by unfold vp_in; decide) (by decide) dX3_sumAt_5 ?_
  refine tm_iload_n X 1 dX3_sumAt_6 rfl rfl ?_
  refine tm_iaload X (arX_53 ad dA tt) dX3_sumAt_7 ?_
  refine tm_aload_n X 0 dX3_sumAt_8 rfl rfl ?_
  refine tm_getR X (frX_50_0 ad dA tt h) in_X3 rfl (Nat.le_of_ble_eq_true rfl) q178 rfl dX3_sumAt_9 ?_
  refine tm_iconst X (0 : Int32) dX3_sumAt_12 (by decide) ?_
  refine tm_aaloadL (j := 0) X (aaX_51 ad dA tt h) (by unfold vp_in; decide) (by decide) dX3_sumAt_13 ?_
  refine tm_iload_n X 1 dX3_sumAt_14 rfl rfl ?_
  refine tm_iload_n X 2 dX3_sumAt_15 rfl rfl ?_
  refine tm_cl1 (fun r1 e2 => ?_)
  refine tm_callSNi (As := [.int x1, .int x2]) (rest := [.ref (ad 52), .int (h 53 x1.toNatClampNeg)]) X (ctX0_facing l D dA x1 x2 r1 e2) q822 q823 q117 q824 cyX0_facing rfl ⟨(Nat.le_of_ble_eq_true rfl), (Nat.le_of_ble_eq_true rfl)⟩ (Nat.le_of_ble_eq_true rfl) dX3_sumAt_16 ⟨Nat.le_of_ble_eq_true rfl, Nat.le_of_ble_eq_true rfl⟩ rfl ?_
  refine tm_iaload X (arX_52 ad dA tt) dX3_sumAt_19 ?_
  refine tm_iadd X dX3_sumAt_20 ?_
  exact tm_retI hRet dX3_sumAt_21
def mX3_opening (b : Nat) (h : Hp) (x1 : Int32) : Option (Int32) :=
fx FU (fun _ _ => none) (fun k4 (x2_1 : Int32) (x3_2 : Int32) =>
if (48 : Int32) ≤ x3_2 then (
some x2_1) else (
cl1 (mX0_facing x3_2 x1) (fun r3 =>
nm (fun (x2_5 : Int32) =>
k4 x2_5 (x3_2 + (1 : Int32))) (fun k30 =>
if r3 = (-1 : Int32) then (
k30 x2_1) else (
cl1 (mX3_sumAt b h x3_2 x1) (fun r7 =>
nm ((jmax x2_1 r7)) (fun v8 =>
k30 v8))))))) (0 : Int32) (0 : Int32)
theorem cyX3_opening : Callee yX3_opening 1 := by unfold Callee; decide +kernel
set_option maxHeartbeats 4000000 in
theorem ctX3_opening_40 (l : Launch) (D : va_G) (ad : Nat → Nat) (dA : Nat → ClassId) (tt : (Nat → Option Nat) × (Nat → Option Nat) × va_W) (h : Hp) (x1 : Int32) (r : Int32) (hm : mX3_opening 40 h x1 = some r) : CT l yX3_opening cX3_opening 4 (some .int) D dA 4 85 0 0 (wX ad dA tt h) [.ref (ad 40), .int x1] (some (.int r)) (wX ad dA tt h) := by
  refine ct_open (by decide) (Nat.le_of_ble_eq_true rfl) ?_
  intro G X hI hZ hV hR
  have hRet := hI rfl r rfl
  refine (show TM G r (mX3_opening 40 h x1) (wX ad dA tt h) 0 0 0 [(0, .ref (ad 40)), (1, .int x1)] [] from ?_) hm
  clear hm hI hZ hV hR
  unfold mX3_opening
  refine tm_iconst X (0 : Int32) dX3_opening_0 (by decide) ?_
  refine tm_istore_n X [(2, .int (0 : Int32)), (0, .ref (ad 40)), (1, .int x1)] dX3_opening_1 rfl (Nat.le_of_ble_eq_true rfl) rfl ?_
  refine tm_iconst X (0 : Int32) dX3_opening_2 (by decide) ?_
  refine tm_istore_n X [(3, .int (0 : Int32)), (2, .int (0 : Int32)), (0, .ref (ad 40)), (1, .int x1)] dX3_opening_3 rfl (Nat.le_of_ble_eq_true rfl) rfl ?_
  refine tm_lv X [2, 3, 1, 0] rfl ?_
  refine fx_P (fun (k : Int32 → Int32 → Option (Int32)) => ∀ (x2_1 : Int32) (x3_2 : Int32), TM G r (k x2_1 x3_2) (wX ad dA tt h) 0 0 4 [(0, .ref (ad 40)), (1, .int x1), (2, .int x2_1), (3, .int x3_2)] []) (fun _ _ => tm_none) (fun k4 hk4 x2_1 x3_2 => ?_) FU (0 : Int32) (0 : Int32)
  refine tm_iload_n X 3 dX3_opening_4 rfl rfl ?_
  refine tm_bipush X (48 : Int32) dX3_opening_5 (by decide) ?_
  refine tm_ic_ge X 36 dX3_opening_7 rfl ?_ ?_
  · skip
    refine tm_iload_n X 2 dX3_opening_36 rfl rfl ?_
    exact tm_retI hRet dX3_opening_37
  · skip
    refine tm_iload_n X 3 dX3_opening_10 rfl rfl ?_
    refine tm_iload_n X 1 dX3_opening_11 rfl rfl ?_
    refine tm_cl1 (fun r3 e4 => ?_)
    refine tm_callSNi (As := [.int x3_2, .int x1]) (rest := []) X (ctX0_facing l D dA x3_2 x1 r3 e4) q822 q823 q117 q824 cyX0_facing rfl ⟨(Nat.le_of_ble_eq_true rfl), (Nat.le_of_ble_eq_true rfl)⟩ (Nat.le_of_ble_eq_true rfl) dX3_opening_12 ⟨Nat.le_of_ble_eq_true rfl, Nat.le_of_ble_eq_true rfl⟩ rfl ?_
    refine tm_iconst X (-1 : Int32) dX3_opening_15 (by decide) ?_
    refine tm_let (fun k => ∀ (x2_5 : Int32), TM G r (k x2_5) (wX ad dA tt h) 0 0 30 [(0, .ref (ad 40)), (1, .int x1), (2, .int x2_5), (3, .int x3_2)] []) ?_ (fun k30 hk30 => ?_)
    · intro x2_5
      refine tm_iinc (v := (1 : Int32)) X 3 [(3, .int (x3_2 + (1 : Int32))), (0, .ref (ad 40)), (1, .int x1), (2, .int x2_5)] dX3_opening_30 rfl (by decide) (Nat.le_of_ble_eq_true rfl) rfl ?_
      refine tm_goto X 4 dX3_opening_33 rfl ?_
      refine tm_lv X [1, 2, 3, 0] rfl ?_
      exact hk4 x2_5 (x3_2 + (1 : Int32))
    · skip
      refine tm_ic_eq X 30 dX3_opening_16 rfl ?_ ?_
      · skip
        exact hk30 x2_1
      · skip
        refine tm_iload_n X 2 dX3_opening_19 rfl rfl ?_
        refine tm_aload_n X 0 dX3_opening_20 rfl rfl ?_
        refine tm_iload_n X 3 dX3_opening_21 rfl rfl ?_
        refine tm_iload_n X 1 dX3_opening_22 rfl rfl ?_
        refine tm_cl1 (fun r7 e6 => ?_)
        refine tm_callVi (As := [.int x3_2, .int x1]) (rest := [.int x2_1]) (q0 := 3) X (ctX3_sumAt_40 l D ad dA tt h x3_2 x1 r7 e6) (lw_V q828 q829 q830 q120 q831) cyX3_sumAt rfl rfl rfl ⟨(Nat.le_of_ble_eq_true rfl), (Nat.le_of_ble_eq_true rfl)⟩ (Nat.le_of_ble_eq_true rfl) dX3_opening_23 ⟨Nat.le_of_ble_eq_true rfl, Nat.le_of_ble_eq_true rfl⟩ rfl ?_
        refine tm_mmax X q832 (Nat.le_of_ble_eq_true rfl) (Nat.le_of_ble_eq_true rfl) ⟨Nat.le_of_ble_eq_true rfl, Nat.le_of_ble_eq_true rfl⟩ dX3_opening_26 ?_
        refine tm_nmI (fun v8 => ?_)
        refine tm_istore_n X [(2, .int v8), (0, .ref (ad 40)), (1, .int x1), (3, .int x3_2)] dX3_opening_29 rfl (Nat.le_of_ble_eq_true rfl) rfl ?_
        refine tm_lv X [1, 2, 0, 3] rfl ?_
        exact hk30 v8
set_option maxHeartbeats 4000000 in
theorem ctX3_opening_50 (l : Launch) (D : va_G) (ad : Nat → Nat) (dA : Nat → ClassId) (tt : (Nat → Option Nat) × (Nat → Option Nat) × va_W) (h : Hp) (x1 : Int32) (r : Int32) (hm : mX3_opening 50 h x1 = some r) : CT l yX3_opening cX3_opening 4 (some .int) D dA 4 85 0 0 (wX ad dA tt h) [.ref (ad 50), .int x1] (some (.int r)) (wX ad dA tt h) := by
  refine ct_open (by decide) (Nat.le_of_ble_eq_true rfl) ?_
  intro G X hI hZ hV hR
  have hRet := hI rfl r rfl
  refine (show TM G r (mX3_opening 50 h x1) (wX ad dA tt h) 0 0 0 [(0, .ref (ad 50)), (1, .int x1)] [] from ?_) hm
  clear hm hI hZ hV hR
  unfold mX3_opening
  refine tm_iconst X (0 : Int32) dX3_opening_0 (by decide) ?_
  refine tm_istore_n X [(2, .int (0 : Int32)), (0, .ref (ad 50)), (1, .int x1)] dX3_opening_1 rfl (Nat.le_of_ble_eq_true rfl) rfl ?_
  refine tm_iconst X (0 : Int32) dX3_opening_2 (by decide) ?_
  refine tm_istore_n X [(3, .int (0 : Int32)), (2, .int (0 : Int32)), (0, .ref (ad 50)), (1, .int x1)] dX3_opening_3 rfl (Nat.le_of_ble_eq_true rfl) rfl ?_
  refine tm_lv X [2, 3, 1, 0] rfl ?_
  refine fx_P (fun (k : Int32 → Int32 → Option (Int32)) => ∀ (x2_1 : Int32) (x3_2 : Int32), TM G r (k x2_1 x3_2) (wX ad dA tt h) 0 0 4 [(0, .ref (ad 50)), (1, .int x1), (2, .int x2_1), (3, .int x3_2)] []) (fun _ _ => tm_none) (fun k4 hk4 x2_1 x3_2 => ?_) FU (0 : Int32) (0 : Int32)
  refine tm_iload_n X 3 dX3_opening_4 rfl rfl ?_
  refine tm_bipush X (48 : Int32) dX3_opening_5 (by decide) ?_
  refine tm_ic_ge X 36 dX3_opening_7 rfl ?_ ?_
  · skip
    refine tm_iload_n X 2 dX3_opening_36 rfl rfl ?_
    exact tm_retI hRet dX3_opening_37
  · skip
    refine tm_iload_n X 3 dX3_opening_10 rfl rfl ?_
    refine tm_iload_n X 1 dX3_opening_11 rfl rfl ?_
    refine tm_cl1 (fun r3 e4 => ?_)
    refine tm_callSNi (As := [.int x3_2, .int x1]) (rest := []) X (ctX0_facing l D dA x3_2 x1 r3 e4) q822 q823 q117 q824 cyX0_facing rfl ⟨(Nat.le_of_ble_eq_true rfl), (Nat.le_of_ble_eq_true rfl)⟩ (Nat.le_of_ble_eq_true rfl) dX3_opening_12 ⟨Nat.le_of_ble_eq_true rfl, Nat.le_of_ble_eq_true rfl⟩ rfl ?_
    refine tm_iconst X (-1 : Int32) dX3_opening_15 (by decide) ?_
    refine tm_let (fun k => ∀ (x2_5 : Int32), TM G r (k x2_5) (wX ad dA tt h) 0 0 30 [(0, .ref (ad 50)), (1, .int x1), (2, .int x2_5), (3, .int x3_2)] []) ?_ (fun k30 hk30 => ?_)
    · intro x2_5
      refine tm_iinc (v := (1 : Int32)) X 3 [(3, .int (x3_2 + (1 : Int32))), (0, .ref (ad 50)), (1, .int x1), (2, .int x2_5)] dX3_opening_30 rfl (by decide) (Nat.le_of_ble_eq_true rfl) rfl ?_
      refine tm_goto X 4 dX3_opening_33 rfl ?_
      refine tm_lv X [1, 2, 3, 0] rfl ?_
      exact hk4 x2_5 (x3_2 + (1 : Int32))
    · skip
      refine tm_ic_eq X 30 dX3_opening_16 rfl ?_ ?_
      · skip
        exact hk30 x2_1
      · skip
        refine tm_iload_n X 2 dX3_opening_19 rfl rfl ?_
        refine tm_aload_n X 0 dX3_opening_20 rfl rfl ?_
        refine tm_iload_n X 3 dX3_opening_21 rfl rfl ?_
        refine tm_iload_n X 1 dX3_opening_22 rfl rfl ?_
        refine tm_cl1 (fun r7 e6 => ?_)
        refine tm_callVi (As := [.int x3_2, .int x1]) (rest := [.int x2_1]) (q0 := 8) X (ctX3_sumAt_50 l D ad dA tt h x3_2 x1 r7 e6) (lw_V q828 q829 q830 q120 q831) cyX3_sumAt rfl rfl rfl ⟨(Nat.le_of_ble_eq_true rfl), (Nat.le_of_ble_eq_true rfl)⟩ (Nat.le_of_ble_eq_true rfl) dX3_opening_23 ⟨Nat.le_of_ble_eq_true rfl, Nat.le_of_ble_eq_true rfl⟩ rfl ?_
        refine tm_mmax X q832 (Nat.le_of_ble_eq_true rfl) (Nat.le_of_ble_eq_true rfl) ⟨Nat.le_of_ble_eq_true rfl, Nat.le_of_ble_eq_true rfl⟩ dX3_opening_26 ?_
        refine tm_nmI (fun v8 => ?_)
        refine tm_istore_n X [(2, .int v8), (0, .ref (ad 50)), (1, .int x1), (3, .int x3_2)] dX3_opening_29 rfl (Nat.le_of_ble_eq_true rfl) rfl ?_
        refine tm_lv X [1, 2, 0, 3] rfl ?_
        exact hk30 v8
def mX3_marks (b : Nat) (h : Hp) (x1 : Int32) (x2 : Int32) : Option (Int32 × Hp) :=
cl1 (mX3_opening b h x1) (fun r2 =>
nm ((r2 - x2)) (fun v3 =>
fx FU (fun _ _ _ => none) (fun k14 (x3_4 : Int32) (x5_5 : Int32) (h6 : Hp) =>
if (48 : Int32) ≤ x5_5 then (
some (x3_4, h6)) else (
cl1 (mX0_facing x5_5 x1) (fun r7 =>
nm (fun (s9 : Int32) =>
ck x5_5 48 (nm (u2 h6 2 x5_5.toNatClampNeg (vp_nar .boolean s9)) (fun h10 =>
ck x5_5 48 (
nm (fun (s11 : Int32) =>
nm ((x3_4 + s11)) (fun v12 =>
k14 v12 (x5_5 + (1 : Int32)) h10)) (fun k77 =>
if (h10 2 x5_5.toNatClampNeg) = 0 then (
k77 (0 : Int32)) else (
k77 (1 : Int32))))))) (fun k57 =>
nm (
k57 (0 : Int32)) (fun k56 =>
if r7 = (-1 : Int32) then (
k56) else (
cl1 (mX3_sumAt b h6 x5_5 x1) (fun r14 =>
if r14 < v3 then (
k56) else (
k57 (1 : Int32))))))))) (0 : Int32) (0 : Int32) h))
theorem cyX3_marks : Callee yX3_marks 2 := by unfold Callee; decide +kernel
set_option maxHeartbeats 4000000 in
theorem ctX3_marks_40 (l : Launch) (D : va_G) (ad : Nat → Nat) (dA : Nat → ClassId) (tt : (Nat → Option Nat) × (Nat → Option Nat) × va_W) (h : Hp) (x1 : Int32) (x2 : Int32) (r : Int32) (h' : Hp) (hm : mX3_marks 40 h x1 x2 = some (r, h')) : CT l yX3_marks cX3_marks 6 (some .int) D dA 5 108 0 0 (wX ad dA tt h) [.ref (ad 40), .int x1, .int x2] (some (.int r)) (wX ad dA tt h') := by
  refine ct_open (by decide) (Nat.le_of_ble_eq_true rfl) ?_
  intro G X hI hZ hV hR
  have hRet := hI rfl r rfl
  refine (show TM G (r, h') (mX3_marks 40 h x1 x2) (wX ad dA tt h) 0 0 0 [(0, .ref (ad 40)), (1, .int x1), (2, .int x2)] [] from ?_) hm
  clear hm hI hZ hV hR
  unfold mX3_marks
  refine tm_iconst X (0 : Int32) dX3_marks_0 (by decide) ?_
  refine tm_istore_n X [(3, .int (0 : Int32)), (0, .ref (ad 40)), (1, .int x1), (2, .int x2)] dX3_marks_1 rfl (Nat.le_of_ble_eq_true rfl) rfl ?_
  refine tm_aload_n X 1 dX3_marks_2 rfl rfl ?_
  refine tm_iload_n X 2 dX3_marks_3 rfl rfl ?_
  refine tm_cl1 (fun r2 e1 => ?_)
  refine tm_callVi (As := [.int x1]) (rest := []) (q0 := 3) X (ctX3_opening_40 l D ad dA tt h x1 r2 e1) (lw_V q818 q819 q820 q120 q821) cyX3_opening rfl rfl rfl ⟨(Nat.le_of_ble_eq_true rfl), (Nat.le_of_ble_eq_true rfl)⟩ (Nat.le_of_ble_eq_true rfl) dX3_marks_4 ⟨Nat.le_of_ble_eq_true rfl, Nat.le_of_ble_eq_true rfl⟩ rfl ?_
  refine tm_iload_n X 3 dX3_marks_7 rfl rfl ?_
  refine tm_isub X dX3_marks_8 ?_
  refine tm_nmI (fun v3 => ?_)
  refine tm_istore X [(4, .int v3), (3, .int (0 : Int32)), (0, .ref (ad 40)), (1, .int x1), (2, .int x2)] dX3_marks_9 (Nat.le_of_ble_eq_true rfl) rfl ?_
  refine tm_iconst X (0 : Int32) dX3_marks_11 (by decide) ?_
  refine tm_istore X [(5, .int (0 : Int32)), (4, .int v3), (3, .int (0 : Int32)), (0, .ref (ad 40)), (1, .int x1), (2, .int x2)] dX3_marks_12 (Nat.le_of_ble_eq_true rfl) rfl ?_
  refine tm_lv X [3, 4, 2, 1, 0] rfl ?_
  refine fx_P (fun (k : Int32 → Int32 → Hp → Option (Int32 × Hp)) => ∀ (x3_4 : Int32) (x5_5 : Int32) (h6 : Hp), TM G (r, h') (k x3_4 x5_5 h6) (wX ad dA tt h6) 0 0 14 [(0, .ref (ad 40)), (1, .int x1), (3, .int x3_4), (4, .int v3), (5, .int x5_5)] []) (fun _ _ _ => tm_none) (fun k14 hk14 x3_4 x5_5 h6 => ?_) FU (0 : Int32) (0 : Int32) h
  refine tm_iload X 4 dX3_marks_14 rfl ?_
  refine tm_bipush X (48 : Int32) dX3_marks_16 (by decide) ?_
  refine tm_ic_ge X 85 dX3_marks_18 rfl ?_ ?_
  · skip
    refine tm_iload_n X 2 dX3_marks_85 rfl rfl ?_
    exact tm_retIH (wf := wX ad dA tt) hRet dX3_marks_86
  · skip
    refine tm_aload_n X 0 dX3_marks_21 rfl rfl ?_
    refine tm_getR X (frX_40_5 ad dA tt h6) in_X3 rfl (Nat.le_of_ble_eq_true rfl) q188 rfl dX3_marks_22 ?_
    refine tm_getRN X (frX_100_2 ad dA tt h6) in_X0 rfl (Nat.le_of_ble_eq_true rfl) q236 rfl dX3_marks_25 ?_
    refine tm_iload X 4 dX3_marks_28 rfl ?_
    refine tm_iload X 4 dX3_marks_30 rfl ?_
    refine tm_iload_n X 1 dX3_marks_32 rfl rfl ?_
    refine tm_cl1 (fun r7 e8 => ?_)
    refine tm_callSNi (As := [.int x5_5, .int x1]) (rest := [.int x5_5, .ref (ad 2)]) X (ctX0_facing l D dA x5_5 x1 r7 e8) q822 q823 q117 q824 cyX0_facing rfl ⟨(Nat.le_of_ble_eq_true rfl), (Nat.le_of_ble_eq_true rfl)⟩ (Nat.le_of_ble_eq_true rfl) dX3_marks_33 ⟨Nat.le_of_ble_eq_true rfl, Nat.le_of_ble_eq_true rfl⟩ rfl ?_
    refine tm_iconst X (-1 : Int32) dX3_marks_36 (by decide) ?_
    refine tm_let (fun k => ∀ (s9 : Int32), TM G (r, h') (k s9) (wX ad dA tt h6) 0 0 57 [(0, .ref (ad 40)), (1, .int x1), (3, .int x3_4), (4, .int v3), (5, .int x5_5)] [.int s9, .int x5_5, .ref (ad 2)]) ?_ (fun k57 hk57 => ?_)
    · intro s9
      refine tm_bastoreZ X (arX_2 ad dA tt) dX3_marks_57 (fun h10 => ?_)
      refine tm_iload_n X 2 dX3_marks_58 rfl rfl ?_
      refine tm_aload_n X 0 dX3_marks_59 rfl rfl ?_
      refine tm_getR X (frX_40_5 ad dA tt h10) in_X3 rfl (Nat.le_of_ble_eq_true rfl) q188 rfl dX3_marks_60 ?_
      refine tm_getRN X (frX_100_2 ad dA tt h10) in_X0 rfl (Nat.le_of_ble_eq_true rfl) q236 rfl dX3_marks_63 ?_
      refine tm_iload X 4 dX3_marks_66 rfl ?_
      refine tm_baloadZ X (arX_2 ad dA tt) dX3_marks_68 ?_
      refine tm_let (fun k => ∀ (s11 : Int32), TM G (r, h') (k s11) (wX ad dA tt h10) 0 0 77 [(0, .ref (ad 40)), (1, .int x1), (4, .int v3), (5, .int x5_5)] [.int s11, .int x3_4]) ?_ (fun k77 hk77 => ?_)
      · intro s11
        refine tm_iadd X dX3_marks_77 ?_
        refine tm_nmI (fun v12 => ?_)
        refine tm_istore_n X [(3, .int v12), (0, .ref (ad 40)), (1, .int x1), (4, .int v3), (5, .int x5_5)] dX3_marks_78 rfl (Nat.le_of_ble_eq_true rfl) rfl ?_
        refine tm_iinc (v := (1 : Int32)) X 4 [(5, .int (x5_5 + (1 : Int32))), (3, .int v12), (0, .ref (ad 40)), (1, .int x1), (4, .int v3)] dX3_marks_79 rfl (by decide) (Nat.le_of_ble_eq_true rfl) rfl ?_
        refine tm_goto X 14 dX3_marks_82 rfl ?_
        refine tm_lv X [2, 3, 1, 4, 0] rfl ?_
        exact hk14 v12 (x5_5 + (1 : Int32)) h10
      · skip
        refine tm_if_eq X 76 dX3_marks_69 rfl ?_ ?_
        · skip
          refine tm_iconst X (0 : Int32) dX3_marks_76 (by decide) ?_
          refine tm_lv X [0, 1, 3, 4] rfl ?_
          exact hk77 (0 : Int32)
        · skip
          refine tm_iconst X (1 : Int32) dX3_marks_72 (by decide) ?_
          refine tm_goto X 77 dX3_marks_73 rfl ?_
          refine tm_lv X [0, 1, 3, 4] rfl ?_
          exact hk77 (1 : Int32)
    · skip
      refine tm_let (fun k => TM G (r, h') k (wX ad dA tt h6) 0 0 56 [(0, .ref (ad 40)), (1, .int x1), (3, .int x3_4), (4, .int v3), (5, .int x5_5)] [.int x5_5, .ref (ad 2)]) ?_ (fun k56 hk56 => ?_)
      · skip
        refine tm_iconst X (0 : Int32) dX3_marks_56 (by decide) ?_
        exact hk57 (0 : Int32)
      · skip
        refine tm_ic_eq X 56 dX3_marks_37 rfl ?_ ?_
        · skip
          exact hk56
        · skip
          refine tm_aload_n X 0 dX3_marks_40 rfl rfl ?_
          refine tm_iload X 4 dX3_marks_41 rfl ?_
          refine tm_iload_n X 1 dX3_marks_43 rfl rfl ?_
          refine tm_cl1 (fun r14 e13 => ?_)
          refine tm_callVi (As := [.int x5_5, .int x1]) (rest := [.int x5_5, .ref (ad 2)]) (q0 := 3) X (ctX3_sumAt_40 l D ad dA tt h6 x5_5 x1 r14 e13) (lw_V q828 q829 q830 q120 q831) cyX3_sumAt rfl rfl rfl ⟨(Nat.le_of_ble_eq_true rfl), (Nat.le_of_ble_eq_true rfl)⟩ (Nat.le_of_ble_eq_true rfl) dX3_marks_44 ⟨Nat.le_of_ble_eq_true rfl, Nat.le_of_ble_eq_true rfl⟩ rfl ?_
          refine tm_iload X 3 dX3_marks_47 rfl ?_
          refine tm_ic_lt X 56 dX3_marks_49 rfl ?_ ?_
          · skip
            exact hk56
          · skip
            refine tm_iconst X (1 : Int32) dX3_marks_52 (by decide) ?_
            refine tm_goto X 57 dX3_marks_53 rfl ?_
            exact hk57 (1 : Int32)
set_option maxHeartbeats 4000000 in
theorem ctX3_marks_50 (l : Launch) (D : va_G) (ad : Nat → Nat) (dA : Nat → ClassId) (tt : (Nat → Option Nat) × (Nat → Option Nat) × va_W) (h : Hp) (x1 : Int32) (x2 : Int32) (r : Int32) (h' : Hp) (hm : mX3_marks 50 h x1 x2 = some (r, h')) : CT l yX3_marks cX3_marks 6 (some .int) D dA 5 108 0 0 (wX ad dA tt h) [.ref (ad 50), .int x1, .int x2] (some (.int r)) (wX ad dA tt h') := by
  refine ct_open (by decide) (Nat.le_of_ble_eq_true rfl) ?_
  intro G X hI hZ hV hR
  have hRet := hI rfl r rfl
  refine (show TM G (r, h') (mX3_marks 50 h x1 x2) (wX ad dA tt h) 0 0 0 [(0, .ref (ad 50)), (1, .int x1), (2, .int x2)] [] from ?_) hm
  clear hm hI hZ hV hR
  unfold mX3_marks
  refine tm_iconst X (0 : Int32) dX3_marks_0 (by decide) ?_
  refine tm_istore_n X [(3, .int (0 : Int32)), (0, .ref (ad 50)), (1, .int x1), (2, .int x2)] dX3_marks_1 rfl (Nat.le_of_ble_eq_true rfl) rfl ?_
  refine tm_aload_n X 1 dX3_marks_2 rfl rfl ?_
  refine tm_iload_n X 2 dX3_marks_3 rfl rfl ?_
  refine tm_cl1 (fun r2 e1 => ?_)
  refine tm_callVi (As := [.int x1]) (rest := []) (q0 := 8) X (ctX3_opening_50 l D ad dA tt h x1 r2 e1) (lw_V q818 q819 q820 q120 q821) cyX3_opening rfl rfl rfl ⟨(Nat.le_of_ble_eq_true rfl), (Nat.le_of_ble_eq_true rfl)⟩ (Nat.le_of_ble_eq_true rfl) dX3_marks_4 ⟨Nat.le_of_ble_eq_true rfl, Nat.le_of_ble_eq_true rfl⟩ rfl ?_
  refine tm_iload_n X 3 dX3_marks_7 rfl rfl ?_
  refine tm_isub X dX3_marks_8 ?_
  refine tm_nmI (fun v3 => ?_)
  refine tm_istore X [(4, .int v3), (3, .int (0 : Int32)), (0, .ref (ad 50)), (1, .int x1), (2, .int x2)] dX3_marks_9 (Nat.le_of_ble_eq_true rfl) rfl ?_
  refine tm_iconst X (0 : Int32) dX3_marks_11 (by decide) ?_
  refine tm_istore X [(5, .int (0 : Int32)), (4, .int v3), (3, .int (0 : Int32)), (0, .ref (ad 50)), (1, .int x1), (2, .int x2)] dX3_marks_12 (Nat.le_of_ble_eq_true rfl) rfl ?_
  refine tm_lv X [3, 4, 2, 1, 0] rfl ?_
  refine fx_P (fun (k : Int32 → Int32 → Hp → Option (Int32 × Hp)) => ∀ (x3_4 : Int32) (x5_5 : Int32) (h6 : Hp), TM G (r, h') (k x3_4 x5_5 h6) (wX ad dA tt h6) 0 0 14 [(0, .ref (ad 50)), (1, .int x1), (3, .int x3_4), (4, .int v3), (5, .int x5_5)] []) (fun _ _ _ => tm_none) (fun k14 hk14 x3_4 x5_5 h6 => ?_) FU (0 : Int32) (0 : Int32) h
  refine tm_iload X 4 dX3_marks_14 rfl ?_
  refine tm_bipush X (48 : Int32) dX3_marks_16 (by decide) ?_
  refine tm_ic_ge X 85 dX3_marks_18 rfl ?_ ?_
  · skip
    refine tm_iload_n X 2 dX3_marks_85 rfl rfl ?_
    exact tm_retIH (wf := wX ad dA tt) hRet dX3_marks_86
  · skip
    refine tm_aload_n X 0 dX3_marks_21 rfl rfl ?_
    refine tm_getR X (frX_50_5 ad dA tt h6) in_X3 rfl (Nat.le_of_ble_eq_true rfl) q188 rfl dX3_marks_22 ?_
    refine tm_getRN X (frX_100_2 ad dA tt h6) in_X0 rfl (Nat.le_of_ble_eq_true rfl) q236 rfl dX3_marks_25 ?_
    refine tm_iload X 4 dX3_marks_28 rfl ?_
    refine tm_iload X 4 dX3_marks_30 rfl ?_
    refine tm_iload_n X 1 dX3_marks_32 rfl rfl ?_
    refine tm_cl1 (fun r7 e8 => ?_)
    refine tm_callSNi (As := [.int x5_5, .int x1]) (rest := [.int x5_5, .ref (ad 2)]) X (ctX0_facing l D dA x5_5 x1 r7 e8) q822 q823 q117 q824 cyX0_facing rfl ⟨(Nat.le_of_ble_eq_true rfl), (Nat.le_of_ble_eq_true rfl)⟩ (Nat.le_of_ble_eq_true rfl) dX3_marks_33 ⟨Nat.le_of_ble_eq_true rfl, Nat.le_of_ble_eq_true rfl⟩ rfl ?_
    refine tm_iconst X (-1 : Int32) dX3_marks_36 (by decide) ?_
    refine tm_let (fun k => ∀ (s9 : Int32), TM G (r, h') (k s9) (wX ad dA tt h6) 0 0 57 [(0, .ref (ad 50)), (1, .int x1), (3, .int x3_4), (4, .int v3), (5, .int x5_5)] [.int s9, .int x5_5, .ref (ad 2)]) ?_ (fun k57 hk57 => ?_)
    · intro s9
      refine tm_bastoreZ X (arX_2 ad dA tt) dX3_marks_57 (fun h10 => ?_)
      refine tm_iload_n X 2 dX3_marks_58 rfl rfl ?_
      refine tm_aload_n X 0 dX3_marks_59 rfl rfl ?_
      refine tm_getR X (frX_50_5 ad dA tt h10) in_X3 rfl (Nat.le_of_ble_eq_true rfl) q188 rfl dX3_marks_60 ?_
      refine tm_getRN X (frX_100_2 ad dA tt h10) in_X0 rfl (Nat.le_of_ble_eq_true rfl) q236 rfl dX3_marks_63 ?_
      refine tm_iload X 4 dX3_marks_66 rfl ?_
      refine tm_baloadZ X (arX_2 ad dA tt) dX3_marks_68 ?_
      refine tm_let (fun k => ∀ (s11 : Int32), TM G (r, h') (k s11) (wX ad dA tt h10) 0 0 77 [(0, .ref (ad 50)), (1, .int x1), (4, .int v3), (5, .int x5_5)] [.int s11, .int x3_4]) ?_ (fun k77 hk77 => ?_)
      · intro s11
        refine tm_iadd X dX3_marks_77 ?_
        refine tm_nmI (fun v12 => ?_)
        refine tm_istore_n X [(3, .int v12), (0, .ref (ad 50)), (1, .int x1), (4, .int v3), (5, .int x5_5)] dX3_marks_78 rfl (Nat.le_of_ble_eq_true rfl) rfl ?_
        refine tm_iinc (v := (1 : Int32)) X 4 [(5, .int (x5_5 + (1 : Int32))), (3, .int v12), (0, .ref (ad 50)), (1, .int x1), (4, .int v3)] dX3_marks_79 rfl (by decide) (Nat.le_of_ble_eq_true rfl) rfl ?_
        refine tm_goto X 14 dX3_marks_82 rfl ?_
        refine tm_lv X [2, 3, 1, 4, 0] rfl ?_
        exact hk14 v12 (x5_5 + (1 : Int32)) h10
      · skip
        refine tm_if_eq X 76 dX3_marks_69 rfl ?_ ?_
        · skip
          refine tm_iconst X (0 : Int32) dX3_marks_76 (by decide) ?_
          refine tm_lv X [0, 1, 3, 4] rfl ?_
          exact hk77 (0 : Int32)
        · skip
          refine tm_iconst X (1 : Int32) dX3_marks_72 (by decide) ?_
          refine tm_goto X 77 dX3_marks_73 rfl ?_
          refine tm_lv X [0, 1, 3, 4] rfl ?_
          exact hk77 (1 : Int32)
    · skip
      refine tm_let (fun k => TM G (r, h') k (wX ad dA tt h6) 0 0 56 [(0, .ref (ad 50)), (1, .int x1), (3, .int x3_4), (4, .int v3), (5, .int x5_5)] [.int x5_5, .ref (ad 2)]) ?_ (fun k56 hk56 => ?_)
      · skip
        refine tm_iconst X (0 : Int32) dX3_marks_56 (by decide) ?_
        exact hk57 (0 : Int32)
      · skip
        refine tm_ic_eq X 56 dX3_marks_37 rfl ?_ ?_
        · skip
          exact hk56
        · skip
          refine tm_aload_n X 0 dX3_marks_40 rfl rfl ?_
          refine tm_iload X 4 dX3_marks_41 rfl ?_
          refine tm_iload_n X 1 dX3_marks_43 rfl rfl ?_
          refine tm_cl1 (fun r14 e13 => ?_)
          refine tm_callVi (As := [.int x5_5, .int x1]) (rest := [.int x5_5, .ref (ad 2)]) (q0 := 8) X (ctX3_sumAt_50 l D ad dA tt h6 x5_5 x1 r14 e13) (lw_V q828 q829 q830 q120 q831) cyX3_sumAt rfl rfl rfl ⟨(Nat.le_of_ble_eq_true rfl), (Nat.le_of_ble_eq_true rfl)⟩ (Nat.le_of_ble_eq_true rfl) dX3_marks_44 ⟨Nat.le_of_ble_eq_true rfl, Nat.le_of_ble_eq_true rfl⟩ rfl ?_
          refine tm_iload X 3 dX3_marks_47 rfl ?_
          refine tm_ic_lt X 56 dX3_marks_49 rfl ?_ ?_
          · skip
            exact hk56
          · skip
            refine tm_iconst X (1 : Int32) dX3_marks_52 (by decide) ?_
            refine tm_goto X 57 dX3_marks_53 rfl ?_
            exact hk57 (1 : Int32)
