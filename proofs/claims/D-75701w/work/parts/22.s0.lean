set_option maxRecDepth 100000
def mX15_here (b : Nat) (h : Hp)  : Option (Int32) :=
nm (fun (s1 : Int32) =>
some s1) (fun k31 =>
if (h b 0) ≤ (h b 1) then (
k31 (0 : Int32)) else (
nm ((h b 1)) (fun v2 =>
ck v2 260 (
k31 ((h 8 v2.toNatClampNeg) &&& (255 : Int32))))))
theorem cyX15_here : Callee yX15_here 0 := by unfold Callee; decide +kernel
set_option maxHeartbeats 4000000 in
theorem ctX15_here_80 (l : Launch) (D : va_G) (ad ac : Nat → Nat) (dA : Nat → ClassId) (tt : (Nat → Option Nat) × (Nat → Option Nat) × va_W) (h : Hp)  (r : Int32) (hm : mX15_here 80 h = some r) : CT l yX15_here cX15_here 1 (some .int) D dA 0 0 0 0 (wXC ad ac dA tt h) [.ref (ac 80)] (some (.int r)) (wXC ad ac dA tt h) := by
  refine ct_open (by decide) (Nat.le_of_ble_eq_true rfl) ?_
  intro G X hI hZ hV hR
  have hRet := hI rfl r rfl
  refine (show TM G r (mX15_here 80 h) (wXC ad ac dA tt h) 0 0 0 [(0, .ref (ac 80))] [] from ?_) hm
  clear hm hI hZ hV hR
  unfold mX15_here
  refine tm_aload_n X 0 dX15_here_0 rfl rfl ?_
  refine tm_getI X (fiXC_80_1 ad ac dA tt) in_X16 rfl (Nat.le_of_ble_eq_true rfl) q621 rfl dX15_here_1 ?_
  refine tm_aload_n X 0 dX15_here_4 rfl rfl ?_
  refine tm_getI X (fiXC_80_0 ad ac dA tt) in_X16 rfl (Nat.le_of_ble_eq_true rfl) q620 rfl dX15_here_5 ?_
  refine tm_let (fun k => ∀ (s1 : Int32), TM G r (k s1) (wXC ad ac dA tt h) 0 0 31 [] [.int s1]) ?_ (fun k31 hk31 => ?_)
  · intro s1
    exact tm_retI hRet dX15_here_31
  · skip
    refine tm_ic_ge X 30 dX15_here_8 rfl ?_ ?_
    · skip
      refine tm_iconst X (0 : Int32) dX15_here_30 (by decide) ?_
      refine tm_lv X [] rfl ?_
      exact hk31 (0 : Int32)
    · skip
      refine tm_aload_n X 0 dX15_here_11 rfl rfl ?_
      refine tm_getR X (frXC_80_4 ad ac dA tt h) in_X16 rfl (Nat.le_of_ble_eq_true rfl) q624 rfl dX15_here_12 ?_
      refine tm_getRN X (frXC_100_8 ad ac dA tt h) in_X0 rfl (Nat.le_of_ble_eq_true rfl) q246 rfl dX15_here_15 ?_
      refine tm_aload_n X 0 dX15_here_18 rfl rfl ?_
      refine tm_getI X (fiXC_80_1 ad ac dA tt) in_X16 rfl (Nat.le_of_ble_eq_true rfl) q621 rfl dX15_here_19 ?_
      refine tm_nmI (fun v2 => ?_)
      refine tm_baloadB X (arXC_8 ad ac dA tt) dX15_here_22 ?_
      refine tm_sipush X (255 : Int32) dX15_here_23 (by decide) ?_
      refine tm_iand X dX15_here_26 ?_
      refine tm_goto X 31 dX15_here_27 rfl ?_
      refine tm_lv X [] rfl ?_
      exact hk31 ((h 8 v2.toNatClampNeg) &&& (255 : Int32))
set_option maxHeartbeats 4000000 in
theorem ctX15_here_85 (l : Launch) (D : va_G) (ad ac : Nat → Nat) (dA : Nat → ClassId) (tt : (Nat → Option Nat) × (Nat → Option Nat) × va_W) (h : Hp)  (r : Int32) (hm : mX15_here 85 h = some r) : CT l yX15_here cX15_here 1 (some .int) D dA 0 0 0 0 (wXG ad ac dA tt h) [.ref (ac 85)] (some (.int r)) (wXG ad ac dA tt h) := by
  refine ct_open (by decide) (Nat.le_of_ble_eq_true rfl) ?_
  intro G X hI hZ hV hR
  have hRet := hI rfl r rfl
  refine (show TM G r (mX15_here 85 h) (wXG ad ac dA tt h) 0 0 0 [(0, .ref (ac 85))] [] from ?_) hm
  clear hm hI hZ hV hR
  unfold mX15_here
  refine tm_aload_n X 0 dX15_here_0 rfl rfl ?_
  refine tm_getI X (fiXG_85_1 ad ac dA tt) in_X17 rfl (Nat.le_of_ble_eq_true rfl) q621 rfl dX15_here_1 ?_
  refine tm_aload_n X 0 dX15_here_4 rfl rfl ?_
  refine tm_getI X (fiXG_85_0 ad ac dA tt) in_X17 rfl (Nat.le_of_ble_eq_true rfl) q620 rfl dX15_here_5 ?_
  refine tm_let (fun k => ∀ (s1 : Int32), TM G r (k s1) (wXG ad ac dA tt h) 0 0 31 [] [.int s1]) ?_ (fun k31 hk31 => ?_)
  · intro s1
    exact tm_retI hRet dX15_here_31
  · skip
    refine tm_ic_ge X 30 dX15_here_8 rfl ?_ ?_
    · skip
      refine tm_iconst X (0 : Int32) dX15_here_30 (by decide) ?_
      refine tm_lv X [] rfl ?_
      exact hk31 (0 : Int32)
    · skip
      refine tm_aload_n X 0 dX15_here_11 rfl rfl ?_
      refine tm_getR X (frXG_85_4 ad ac dA tt h) in_X17 rfl (Nat.le_of_ble_eq_true rfl) q624 rfl dX15_here_12 ?_
      refine tm_getRN X (frXG_100_8 ad ac dA tt h) in_X0 rfl (Nat.le_of_ble_eq_true rfl) q246 rfl dX15_here_15 ?_
      refine tm_aload_n X 0 dX15_here_18 rfl rfl ?_
      refine tm_getI X (fiXG_85_1 ad ac dA tt) in_X17 rfl (Nat.le_of_ble_eq_true rfl) q621 rfl dX15_here_19 ?_
      refine tm_nmI (fun v2 => ?_)
      refine tm_baloadB X (arXG_8 ad ac dA tt) dX15_here_22 ?_
      refine tm_sipush X (255 : Int32) dX15_here_23 (by decide) ?_
      refine tm_iand X dX15_here_26 ?_
      refine tm_goto X 31 dX15_here_27 rfl ?_
      refine tm_lv X [] rfl ?_
      exact hk31 ((h 8 v2.toNatClampNeg) &&& (255 : Int32))
def mX15_place (b : Nat) (h : Hp)  : Option (Int32) :=
some (h b 1)
theorem cyX15_place : Callee yX15_place 0 := by unfold Callee; decide +kernel
set_option maxHeartbeats 4000000 in
theorem ctX15_place_80 (l : Launch) (D : va_G) (ad ac : Nat → Nat) (dA : Nat → ClassId) (tt : (Nat → Option Nat) × (Nat → Option Nat) × va_W) (h : Hp)  (r : Int32) (hm : mX15_place 80 h = some r) : CT l yX15_place cX15_place 1 (some .int) D dA 0 0 0 0 (wXC ad ac dA tt h) [.ref (ac 80)] (some (.int r)) (wXC ad ac dA tt h) := by
  refine ct_open (by decide) (Nat.le_of_ble_eq_true rfl) ?_
  intro G X hI hZ hV hR
  have hRet := hI rfl r rfl
  refine (show TM G r (mX15_place 80 h) (wXC ad ac dA tt h) 0 0 0 [(0, .ref (ac 80))] [] from ?_) hm
  clear hm hI hZ hV hR
  unfold mX15_place
  refine tm_aload_n X 0 dX15_place_0 rfl rfl ?_
  refine tm_getI X (fiXC_80_1 ad ac dA tt) in_X16 rfl (Nat.le_of_ble_eq_true rfl) q621 rfl dX15_place_1 ?_
  exact tm_retI hRet dX15_place_4
set_option maxHeartbeats 4000000 in
theorem ctX15_place_85 (l : Launch) (D : va_G) (ad ac : Nat → Nat) (dA : Nat → ClassId) (tt : (Nat → Option Nat) × (Nat → Option Nat) × va_W) (h : Hp)  (r : Int32) (hm : mX15_place 85 h = some r) : CT l yX15_place cX15_place 1 (some .int) D dA 0 0 0 0 (wXG ad ac dA tt h) [.ref (ac 85)] (some (.int r)) (wXG ad ac dA tt h) := by
  refine ct_open (by decide) (Nat.le_of_ble_eq_true rfl) ?_
  intro G X hI hZ hV hR
  have hRet := hI rfl r rfl
  refine (show TM G r (mX15_place 85 h) (wXG ad ac dA tt h) 0 0 0 [(0, .ref (ac 85))] [] from ?_) hm
  clear hm hI hZ hV hR
  unfold mX15_place
  refine tm_aload_n X 0 dX15_place_0 rfl rfl ?_
  refine tm_getI X (fiXG_85_1 ad ac dA tt) in_X17 rfl (Nat.le_of_ble_eq_true rfl) q621 rfl dX15_place_1 ?_
  exact tm_retI hRet dX15_place_4
def mX15_goesOn (b : Nat) (h : Hp)  : Option (Hp) :=
nm (u2 h b 1 ((h b 1) + (1 : Int32))) (fun h1 =>
some h1)
theorem cyX15_goesOn : Callee yX15_goesOn 0 := by unfold Callee; decide +kernel
set_option maxHeartbeats 4000000 in
theorem ctX15_goesOn_80 (l : Launch) (D : va_G) (ad ac : Nat → Nat) (dA : Nat → ClassId) (tt : (Nat → Option Nat) × (Nat → Option Nat) × va_W) (h : Hp)  (h' : Hp) (hm : mX15_goesOn 80 h = some h') : CT l yX15_goesOn cX15_goesOn 1 none D dA 0 0 0 0 (wXC ad ac dA tt h) [.ref (ac 80)] none (wXC ad ac dA tt h') := by
  refine ct_open (by decide) (Nat.le_of_ble_eq_true rfl) ?_
  intro G X hI hZ hV hR
  have hRet := hV rfl rfl
  refine (show TM G h' (mX15_goesOn 80 h) (wXC ad ac dA tt h) 0 0 0 [(0, .ref (ac 80))] [] from ?_) hm
  clear hm hI hZ hV hR
  unfold mX15_goesOn
  refine tm_aload_n X 0 dX15_goesOn_0 rfl rfl ?_
  refine tm_dup X dX15_goesOn_1 rfl ?_
  refine tm_getI X (fiXC_80_1 ad ac dA tt) in_X16 rfl (Nat.le_of_ble_eq_true rfl) q621 rfl dX15_goesOn_2 ?_
  refine tm_iconst X (1 : Int32) dX15_goesOn_5 (by decide) ?_
  refine tm_iadd X dX15_goesOn_6 ?_
  refine tm_putIA X (fiXC_80_1 ad ac dA tt) in_X16 rfl (Nat.le_of_ble_eq_true rfl) (apart16 D dA) rfl rfl q621 rfl dX15_goesOn_7 (fun h1 => ?_)
  exact tm_retV (wf := wXC ad ac dA tt) hRet dX15_goesOn_10
set_option maxHeartbeats 4000000 in
theorem ctX15_goesOn_85 (l : Launch) (D : va_G) (ad ac : Nat → Nat) (dA : Nat → ClassId) (tt : (Nat → Option Nat) × (Nat → Option Nat) × va_W) (h : Hp)  (h' : Hp) (hm : mX15_goesOn 85 h = some h') : CT l yX15_goesOn cX15_goesOn 1 none D dA 0 0 0 0 (wXG ad ac dA tt h) [.ref (ac 85)] none (wXG ad ac dA tt h') := by
  refine ct_open (by decide) (Nat.le_of_ble_eq_true rfl) ?_
  intro G X hI hZ hV hR
  have hRet := hV rfl rfl
  refine (show TM G h' (mX15_goesOn 85 h) (wXG ad ac dA tt h) 0 0 0 [(0, .ref (ac 85))] [] from ?_) hm
  clear hm hI hZ hV hR
  unfold mX15_goesOn
  refine tm_aload_n X 0 dX15_goesOn_0 rfl rfl ?_
  refine tm_dup X dX15_goesOn_1 rfl ?_
  refine tm_getI X (fiXG_85_1 ad ac dA tt) in_X17 rfl (Nat.le_of_ble_eq_true rfl) q621 rfl dX15_goesOn_2 ?_
  refine tm_iconst X (1 : Int32) dX15_goesOn_5 (by decide) ?_
  refine tm_iadd X dX15_goesOn_6 ?_
  refine tm_putIA X (fiXG_85_1 ad ac dA tt) in_X17 rfl (Nat.le_of_ble_eq_true rfl) (apart17 D dA) rfl rfl q621 rfl dX15_goesOn_7 (fun h1 => ?_)
  exact tm_retV (wf := wXG ad ac dA tt) hRet dX15_goesOn_10
def mX15_isEnd (b : Nat) (h : Hp)  : Option (Int32) :=
nm (fun (s1 : Int32) =>
bz s1 (some s1)) (fun k16 =>
if (h b 1) < (h b 0) then (
k16 (0 : Int32)) else (
k16 (1 : Int32)))
theorem cyX15_isEnd : Callee yX15_isEnd 0 := by unfold Callee; decide +kernel
set_option maxHeartbeats 4000000 in
theorem ctX15_isEnd_80 (l : Launch) (D : va_G) (ad ac : Nat → Nat) (dA : Nat → ClassId) (tt : (Nat → Option Nat) × (Nat → Option Nat) × va_W) (h : Hp)  (r : Int32) (hm : mX15_isEnd 80 h = some r) : CT l yX15_isEnd cX15_isEnd 1 (some .boolean) D dA 0 0 0 0 (wXC ad ac dA tt h) [.ref (ac 80)] (some (.int r)) (wXC ad ac dA tt h) := by
  refine ct_open (by decide) (Nat.le_of_ble_eq_true rfl) ?_
  intro G X hI hZ hV hR
  have hRet := fun hv => hZ rfl r hv rfl
  refine (show TM G r (mX15_isEnd 80 h) (wXC ad ac dA tt h) 0 0 0 [(0, .ref (ac 80))] [] from ?_) hm
  clear hm hI hZ hV hR
  unfold mX15_isEnd
  refine tm_aload_n X 0 dX15_isEnd_0 rfl rfl ?_
  refine tm_getI X (fiXC_80_1 ad ac dA tt) in_X16 rfl (Nat.le_of_ble_eq_true rfl) q621 rfl dX15_isEnd_1 ?_
  refine tm_aload_n X 0 dX15_isEnd_4 rfl rfl ?_
  refine tm_getI X (fiXC_80_0 ad ac dA tt) in_X16 rfl (Nat.le_of_ble_eq_true rfl) q620 rfl dX15_isEnd_5 ?_
  refine tm_let (fun k => ∀ (s1 : Int32), TM G r (k s1) (wXC ad ac dA tt h) 0 0 16 [] [.int s1]) ?_ (fun k16 hk16 => ?_)
  · intro s1
    exact tm_retZ hRet dX15_isEnd_16
  · skip
    refine tm_ic_lt X 15 dX15_isEnd_8 rfl ?_ ?_
    · skip
      refine tm_iconst X (0 : Int32) dX15_isEnd_15 (by decide) ?_
      refine tm_lv X [] rfl ?_
      exact hk16 (0 : Int32)
    · skip
      refine tm_iconst X (1 : Int32) dX15_isEnd_11 (by decide) ?_
      refine tm_goto X 16 dX15_isEnd_12 rfl ?_
      refine tm_lv X [] rfl ?_
      exact hk16 (1 : Int32)
set_option maxHeartbeats 4000000 in
theorem ctX15_isEnd_85 (l : Launch) (D : va_G) (ad ac : Nat → Nat) (dA : Nat → ClassId) (tt : (Nat → Option Nat) × (Nat → Option Nat) × va_W) (h : Hp)  (r : Int32) (hm : mX15_isEnd 85 h = some r) : CT l yX15_isEnd cX15_isEnd 1 (some .boolean) D dA 0 0 0 0 (wXG ad ac dA tt h) [.ref (ac 85)] (some (.int r)) (wXG ad ac dA tt h) := by
  refine ct_open (by decide) (Nat.le_of_ble_eq_true rfl) ?_
  intro G X hI hZ hV hR
  have hRet := fun hv => hZ rfl r hv rfl
  refine (show TM G r (mX15_isEnd 85 h) (wXG ad ac dA tt h) 0 0 0 [(0, .ref (ac 85))] [] from ?_) hm
  clear hm hI hZ hV hR
  unfold mX15_isEnd
  refine tm_aload_n X 0 dX15_isEnd_0 rfl rfl ?_
  refine tm_getI X (fiXG_85_1 ad ac dA tt) in_X17 rfl (Nat.le_of_ble_eq_true rfl) q621 rfl dX15_isEnd_1 ?_
  refine tm_aload_n X 0 dX15_isEnd_4 rfl rfl ?_
  refine tm_getI X (fiXG_85_0 ad ac dA tt) in_X17 rfl (Nat.le_of_ble_eq_true rfl) q620 rfl dX15_isEnd_5 ?_
  refine tm_let (fun k => ∀ (s1 : Int32), TM G r (k s1) (wXG ad ac dA tt h) 0 0 16 [] [.int s1]) ?_ (fun k16 hk16 => ?_)
  · intro s1
    exact tm_retZ hRet dX15_isEnd_16
  · skip
    refine tm_ic_lt X 15 dX15_isEnd_8 rfl ?_ ?_
    · skip
      refine tm_iconst X (0 : Int32) dX15_isEnd_15 (by decide) ?_
      refine tm_lv X [] rfl ?_
      exact hk16 (0 : Int32)
    · skip
      refine tm_iconst X (1 : Int32) dX15_isEnd_11 (by decide) ?_
      refine tm_goto X 16 dX15_isEnd_12 rfl ?_
      refine tm_lv X [] rfl ?_
      exact hk16 (1 : Int32)
def mX15_bad (b : Nat) (h : Hp) (x1 : Int32) (x2 : Int32) : Option (Hp) :=
if (h b 2) ≤ 0 then (
nm (u2 h b 2 x1) (fun h1 =>
nm (u2 h1 b 3 x2) (fun h2 =>
some h2))) else (
some h)
theorem cyX15_bad : Callee yX15_bad 2 := by unfold Callee; decide +kernel
set_option maxHeartbeats 4000000 in
theorem ctX15_bad_80 (l : Launch) (D : va_G) (ad ac : Nat → Nat) (dA : Nat → ClassId) (tt : (Nat → Option Nat) × (Nat → Option Nat) × va_W) (h : Hp) (x1 : Int32) (x2 : Int32) (h' : Hp) (hm : mX15_bad 80 h x1 x2 = some h') : CT l yX15_bad cX15_bad 3 none D dA 0 0 0 0 (wXC ad ac dA tt h) [.ref (ac 80), .int x1, .int x2] none (wXC ad ac dA tt h') := by
  refine ct_open (by decide) (Nat.le_of_ble_eq_true rfl) ?_
  intro G X hI hZ hV hR
  have hRet := hV rfl rfl
  refine (show TM G h' (mX15_bad 80 h x1 x2) (wXC ad ac dA tt h) 0 0 0 [(0, .ref (ac 80)), (1, .int x1), (2, .int x2)] [] from ?_) hm
  clear hm hI hZ hV hR
  unfold mX15_bad
  refine tm_aload_n X 0 dX15_bad_0 rfl rfl ?_
  refine tm_getI X (fiXC_80_2 ad ac dA tt) in_X16 rfl (Nat.le_of_ble_eq_true rfl) q622 rfl dX15_bad_1 ?_
  refine tm_if_le X 8 dX15_bad_4 rfl ?_ ?_
  · skip
    refine tm_aload_n X 0 dX15_bad_8 rfl rfl ?_
    refine tm_iload_n X 1 dX15_bad_9 rfl rfl ?_
    refine tm_putIA X (fiXC_80_2 ad ac dA tt) in_X16 rfl (Nat.le_of_ble_eq_true rfl) (apart16 D dA) rfl rfl q622 rfl dX15_bad_10 (fun h1 => ?_)
    refine tm_aload_n X 0 dX15_bad_13 rfl rfl ?_
    refine tm_iload_n X 2 dX15_bad_14 rfl rfl ?_
    refine tm_putIA X (fiXC_80_3 ad ac dA tt) in_X16 rfl (Nat.le_of_ble_eq_true rfl) (apart16 D dA) rfl rfl q623 rfl dX15_bad_15 (fun h2 => ?_)
    exact tm_retV (wf := wXC ad ac dA tt) hRet dX15_bad_18
  · skip
    exact tm_retV (wf := wXC ad ac dA tt) hRet dX15_bad_7
set_option maxHeartbeats 4000000 in
theorem ctX15_bad_85 (l : Launch) (D : va_G) (ad ac : Nat → Nat) (dA : Nat → ClassId) (tt : (Nat → Option Nat) × (Nat → Option Nat) × va_W) (h : Hp) (x1 : Int32) (x2 : Int32) (h' : Hp) (hm : mX15_bad 85 h x1 x2 = some h') : CT l yX15_bad cX15_bad 3 none D dA 0 0 0 0 (wXG ad ac dA tt h) [.ref (ac 85), .int x1, .int x2] none (wXG ad ac dA tt h') := by
  refine ct_open (by decide) (Nat.le_of_ble_eq_true rfl) ?_
  intro G X hI hZ hV hR
  have hRet := hV rfl rfl
  refine (show TM G h' (mX15_bad 85 h x1 x2) (wXG ad ac dA tt h) 0 0 0 [(0, .ref (ac 85)), (1, .int x1), (2, .int x2)] [] from ?_) hm
  clear hm hI hZ hV hR
  unfold mX15_bad
  refine tm_aload_n X 0 dX15_bad_0 rfl rfl ?_
  refine tm_getI X (fiXG_85_2 ad ac dA tt) in_X17 rfl (Nat.le_of_ble_eq_true rfl) q622 rfl dX15_bad_1 ?_
  refine tm_if_le X 8 dX15_bad_4 rfl ?_ ?_
  · skip
    refine tm_aload_n X 0 dX15_bad_8 rfl rfl ?_
    refine tm_iload_n X 1 dX15_bad_9 rfl rfl ?_
    refine tm_putIA X (fiXG_85_2 ad ac dA tt) in_X17 rfl (Nat.le_of_ble_eq_true rfl) (apart17 D dA) rfl rfl q622 rfl dX15_bad_10 (fun h1 => ?_)
    refine tm_aload_n X 0 dX15_bad_13 rfl rfl ?_
    refine tm_iload_n X 2 dX15_bad_14 rfl rfl ?_
    refine tm_putIA X (fiXG_85_3 ad ac dA tt) in_X17 rfl (Nat.le_of_ble_eq_true rfl) (apart17 D dA) rfl rfl q623 rfl dX15_bad_15 (fun h2 => ?_)
    exact tm_retV (wf := wXG ad ac dA tt) hRet dX15_bad_18
  · skip
    exact tm_retV (wf := wXG ad ac dA tt) hRet dX15_bad_7
def mX15_isGood (b : Nat) (h : Hp)  : Option (Int32) :=
nm (fun (s1 : Int32) =>
bz s1 (some s1)) (fun k12 =>
if (h b 2) = 0 then (
k12 (1 : Int32)) else (
k12 (0 : Int32)))
theorem cyX15_isGood : Callee yX15_isGood 0 := by unfold Callee; decide +kernel
set_option maxHeartbeats 4000000 in
theorem ctX15_isGood_80 (l : Launch) (D : va_G) (ad ac : Nat → Nat) (dA : Nat → ClassId) (tt : (Nat → Option Nat) × (Nat → Option Nat) × va_W) (h : Hp)  (r : Int32) (hm : mX15_isGood 80 h = some r) : CT l yX15_isGood cX15_isGood 1 (some .boolean) D dA 0 0 0 0 (wXC ad ac dA tt h) [.ref (ac 80)] (some (.int r)) (wXC ad ac dA tt h) := by
  refine ct_open (by decide) (Nat.le_of_ble_eq_true rfl) ?_
  intro G X hI hZ hV hR
  have hRet := fun hv => hZ rfl r hv rfl
  refine (show TM G r (mX15_isGood 80 h) (wXC ad ac dA tt h) 0 0 0 [(0, .ref (ac 80))] [] from ?_) hm
  clear hm hI hZ hV hR
  unfold mX15_isGood
  refine tm_aload_n X 0 dX15_isGood_0 rfl rfl ?_
  refine tm_getI X (fiXC_80_2 ad ac dA tt) in_X16 rfl (Nat.le_of_ble_eq_true rfl) q622 rfl dX15_isGood_1 ?_
  refine tm_let (fun k => ∀ (s1 : Int32), TM G r (k s1) (wXC ad ac dA tt h) 0 0 12 [] [.int s1]) ?_ (fun k12 hk12 => ?_)
  · intro s1
    exact tm_retZ hRet dX15_isGood_12
  · skip
    refine tm_if_ne X 11 dX15_isGood_4 rfl ?_ ?_
    · skip
      refine tm_iconst X (0 : Int32) dX15_isGood_11 (by decide) ?_
      refine tm_lv X [] rfl ?_
      exact hk12 (0 : Int32)
    · skip
      refine tm_iconst X (1 : Int32) dX15_isGood_7 (by decide) ?_
      refine tm_goto X 12 dX15_isGood_8 rfl ?_
      refine tm_lv X [] rfl ?_
      exact hk12 (1 : Int32)
set_option maxHeartbeats 4000000 in
theorem ctX15_isGood_85 (l : Launch) (D : va_G) (ad ac : Nat → Nat) (dA : Nat → ClassId) (tt : (Nat → Option Nat) × (Nat → Option Nat) × va_W) (h : Hp)  (r : Int32) (hm : mX15_isGood 85 h = some r) : CT l yX15_isGood cX15_isGood 1 (some .boolean) D dA 0 0 0 0 (wXG ad ac dA tt h) [.ref (ac 85)] (some (.int r)) (wXG ad ac dA tt h) := by
  refine ct_open (by decide) (Nat.le_of_ble_eq_true rfl) ?_
  intro G X hI hZ hV hR
  have hRet := fun hv => hZ rfl r hv rfl
  refine (show TM G r (mX15_isGood 85 h) (wXG ad ac dA tt h) 0 0 0 [(0, .ref (ac 85))] [] from ?_) hm
  clear hm hI hZ hV hR
  unfold mX15_isGood
  refine tm_aload_n X 0 dX15_isGood_0 rfl rfl ?_
  refine tm_getI X (fiXG_85_2 ad ac dA tt) in_X17 rfl (Nat.le_of_ble_eq_true rfl) q622 rfl dX15_isGood_1 ?_
  refine tm_let (fun k => ∀ (s1 : Int32), TM G r (k s1) (wXG ad ac dA tt h) 0 0 12 [] [.int s1]) ?_ (fun k12 hk12 => ?_)
  · intro s1
    exact tm_retZ hRet dX15_isGood_12
  · skip
    refine tm_if_ne X 11 dX15_isGood_4 rfl ?_ ?_
    · skip
      refine tm_iconst X (0 : Int32) dX15_isGood_11 (by decide) ?_
      refine tm_lv X [] rfl ?_
      exact hk12 (0 : Int32)
    · skip
      refine tm_iconst X (1 : Int32) dX15_isGood_7 (by decide) ?_
      refine tm_goto X 12 dX15_isGood_8 rfl ?_
      refine tm_lv X [] rfl ?_
      exact hk12 (1 : Int32)
def mX15_answer (b : Nat) (h : Hp) (x1 : Int32) : Option (Int32) :=
cl1 (mX15_isGood b h) (fun r2 =>
nm (fun (s3 : Int32) =>
some s3) (fun k24 =>
if r2 = 0 then (
k24 (((-1000 : Int32) * (h b 2)) - (h b 3))) else (
k24 x1)))
theorem cyX15_answer : Callee yX15_answer 1 := by unfold Callee; decide +kernel
set_option maxHeartbeats 4000000 in
theorem ctX15_answer_80 (l : Launch) (D : va_G) (ad ac : Nat → Nat) (dA : Nat → ClassId) (tt : (Nat → Option Nat) × (Nat → Option Nat) × va_W) (h : Hp) (x1 : Int32) (r : Int32) (hm : mX15_answer 80 h x1 = some r) : CT l yX15_answer cX15_answer 2 (some .int) D dA 1 20 0 0 (wXC ad ac dA tt h) [.ref (ac 80), .int x1] (some (.int r)) (wXC ad ac dA tt h) := by
  refine ct_open (by decide) (Nat.le_of_ble_eq_true rfl) ?_
  intro G X hI hZ hV hR
  have hRet := hI rfl r rfl
  refine (show TM G r (mX15_answer 80 h x1) (wXC ad ac dA tt h) 0 0 0 [(0, .ref (ac 80)), (1, .int x1)] [] from ?_) hm
  clear hm hI hZ hV hR
  unfold mX15_answer
  refine tm_aload_n X 0 dX15_answer_0 rfl rfl ?_
  refine tm_cl1 (fun r2 e1 => ?_)
  refine tm_callUi (As := []) (rest := []) (q0 := (35 + tt.2.2.length + 0)) X (ctX15_isGood_80 l D ad ac dA tt h r2 e1) rfl (lw_U q689 q1857 q1858 q680 q138 q681) cyX15_isGood rfl (Classical.choose_spec (obXC_80 ad ac dA tt h)) rfl ⟨(Nat.le_of_ble_eq_true rfl), (Nat.le_of_ble_eq_true rfl)⟩ (Nat.le_of_ble_eq_true rfl) dX15_answer_1 ⟨Nat.le_of_ble_eq_true rfl, Nat.le_of_ble_eq_true rfl⟩ rfl ?_
  refine tm_let (fun k => ∀ (s3 : Int32), TM G r (k s3) (wXC ad ac dA tt h) 0 0 24 [] [.int s3]) ?_ (fun k24 hk24 => ?_)
  · intro s3
    exact tm_retI hRet dX15_answer_24
  · skip
    refine tm_if_eq X 11 dX15_answer_4 rfl ?_ ?_
    · skip
      refine tm_sipush X (-1000 : Int32) dX15_answer_11 (by decide) ?_
      refine tm_aload_n X 0 dX15_answer_14 rfl rfl ?_
      refine tm_getI X (fiXC_80_2 ad ac dA tt) in_X16 rfl (Nat.le_of_ble_eq_true rfl) q622 rfl dX15_answer_15 ?_
      refine tm_imul X dX15_answer_18 ?_
      refine tm_aload_n X 0 dX15_answer_19 rfl rfl ?_
      refine tm_getI X (fiXC_80_3 ad ac dA tt) in_X16 rfl (Nat.le_of_ble_eq_true rfl) q623 rfl dX15_answer_20 ?_
      refine tm_isub X dX15_answer_23 ?_
      refine tm_lv X [] rfl ?_
      exact hk24 (((-1000 : Int32) * (h 80 2)) - (h 80 3))
    · skip
      refine tm_iload_n X 1 dX15_answer_7 rfl rfl ?_
      refine tm_goto X 24 dX15_answer_8 rfl ?_
      refine tm_lv X [] rfl ?_
      exact hk24 x1
set_option maxHeartbeats 4000000 in
theorem ctX15_answer_85 (l : Launch) (D : va_G) (ad ac : Nat → Nat) (dA : Nat → ClassId) (tt : (Nat → Option Nat) × (Nat → Option Nat) × va_W) (h : Hp) (x1 : Int32) (r : Int32) (hm : mX15_answer 85 h x1 = some r) : CT l yX15_answer cX15_answer 2 (some .int) D dA 1 20 0 0 (wXG ad ac dA tt h) [.ref (ac 85), .int x1] (some (.int r)) (wXG ad ac dA tt h) := by
  refine ct_open (by decide) (Nat.le_of_ble_eq_true rfl) ?_
  intro G X hI hZ hV hR
  have hRet := hI rfl r rfl
  refine (show TM G r (mX15_answer 85 h x1) (wXG ad ac dA tt h) 0 0 0 [(0, .ref (ac 85)), (1, .int x1)] [] from ?_) hm
  clear hm hI hZ hV hR
  unfold mX15_answer
  refine tm_aload_n X 0 dX15_answer_0 rfl rfl ?_
  refine tm_cl1 (fun r2 e1 => ?_)
  refine tm_callUi (As := []) (rest := []) (q0 := (35 + tt.2.2.length + 0)) X (ctX15_isGood_85 l D ad ac dA tt h r2 e1) rfl (lw_U q689 q1857 q1859 q680 q138 q681) cyX15_isGood rfl (Classical.choose_spec (obXG_85 ad ac dA tt h)) rfl ⟨(Nat.le_of_ble_eq_true rfl), (Nat.le_of_ble_eq_true rfl)⟩ (Nat.le_of_ble_eq_true rfl) dX15_answer_1 ⟨Nat.le_of_ble_eq_true rfl, Nat.le_of_ble_eq_true rfl⟩ rfl ?_
  refine tm_let (fun k => ∀ (s3 : Int32), TM G r (k s3) (wXG ad ac dA tt h) 0 0 24 [] [.int s3]) ?_ (fun k24 hk24 => ?_)
  · intro s3
    exact tm_retI hRet dX15_answer_24
  · skip
    refine tm_if_eq X 11 dX15_answer_4 rfl ?_ ?_
    · skip
      refine tm_sipush X (-1000 : Int32) dX15_answer_11 (by decide) ?_
      refine tm_aload_n X 0 dX15_answer_14 rfl rfl ?_
      refine tm_getI X (fiXG_85_2 ad ac dA tt) in_X17 rfl (Nat.le_of_ble_eq_true rfl) q622 rfl dX15_answer_15 ?_
      refine tm_imul X dX15_answer_18 ?_
      refine tm_aload_n X 0 dX15_answer_19 rfl rfl ?_
      refine tm_getI X (fiXG_85_3 ad ac dA tt) in_X17 rfl (Nat.le_of_ble_eq_true rfl) q623 rfl dX15_answer_20 ?_
      refine tm_isub X dX15_answer_23 ?_
      refine tm_lv X [] rfl ?_
      exact hk24 (((-1000 : Int32) * (h 85 2)) - (h 85 3))
    · skip
      refine tm_iload_n X 1 dX15_answer_7 rfl rfl ?_
      refine tm_goto X 24 dX15_answer_8 rfl ?_
      refine tm_lv X [] rfl ?_
      exact hk24 x1
def mX15_sees (b : Nat) (h : Hp) (x1 : Int32) (x2 : Int32) : Option (Int32) :=
cl1 (mX15_here b h) (fun r2 =>
nm (fun (s3 : Int32) =>
bz s3 (some s3)) (fun k21 =>
nm (
k21 (0 : Int32)) (fun k20 =>
if r2 < x1 then (
k20) else (
cl1 (mX15_here b h) (fun r5 =>
if x2 < r5 then (
k20) else (
k21 (1 : Int32)))))))
theorem cyX15_sees : Callee yX15_sees 2 := by unfold Callee; decide +kernel
set_option maxHeartbeats 4000000 in
theorem ctX15_sees_80 (l : Launch) (D : va_G) (ad ac : Nat → Nat) (dA : Nat → ClassId) (tt : (Nat → Option Nat) × (Nat → Option Nat) × va_W) (h : Hp) (x1 : Int32) (x2 : Int32) (r : Int32) (hm : mX15_sees 80 h x1 x2 = some r) : CT l yX15_sees cX15_sees 3 (some .boolean) D dA 1 20 0 0 (wXC ad ac dA tt h) [.ref (ac 80), .int x1, .int x2] (some (.int r)) (wXC ad ac dA tt h) := by
  refine ct_open (by decide) (Nat.le_of_ble_eq_true rfl) ?_
  intro G X hI hZ hV hR
  have hRet := fun hv => hZ rfl r hv rfl
  refine (show TM G r (mX15_sees 80 h x1 x2) (wXC ad ac dA tt h) 0 0 0 [(0, .ref (ac 80)), (1, .int x1), (2, .int x2)] [] from ?_) hm
  clear hm hI hZ hV hR
  unfold mX15_sees
  refine tm_aload_n X 0 dX15_sees_0 rfl rfl ?_
  refine tm_cl1 (fun r2 e1 => ?_)
  refine tm_callUi (As := []) (rest := []) (q0 := (35 + tt.2.2.length + 0)) X (ctX15_here_80 l D ad ac dA tt h r2 e1) rfl (lw_U q690 q1860 q1861 q656 q138 q657) cyX15_here rfl (Classical.choose_spec (obXC_80 ad ac dA tt h)) rfl ⟨(Nat.le_of_ble_eq_true rfl), (Nat.le_of_ble_eq_true rfl)⟩ (Nat.le_of_ble_eq_true rfl) dX15_sees_1 ⟨Nat.le_of_ble_eq_true rfl, Nat.le_of_ble_eq_true rfl⟩ rfl ?_
  refine tm_iload_n X 1 dX15_sees_4 rfl rfl ?_
  refine tm_let (fun k => ∀ (s3 : Int32), TM G r (k s3) (wXC ad ac dA tt h) 0 0 21 [] [.int s3]) ?_ (fun k21 hk21 => ?_)
  · intro s3
    exact tm_retZ hRet dX15_sees_21
  · skip
    refine tm_let (fun k => TM G r k (wXC ad ac dA tt h) 0 0 20 [] []) ?_ (fun k20 hk20 => ?_)
    · skip
      refine tm_iconst X (0 : Int32) dX15_sees_20 (by decide) ?_
      exact hk21 (0 : Int32)
    · skip
      refine tm_ic_lt X 20 dX15_sees_5 rfl ?_ ?_
      · skip
        refine tm_lv X [] rfl ?_
        exact hk20
      · skip
        refine tm_aload_n X 0 dX15_sees_8 rfl rfl ?_
        refine tm_cl1 (fun r5 e4 => ?_)
        refine tm_callUi (As := []) (rest := []) (q0 := (35 + tt.2.2.length + 0)) X (ctX15_here_80 l D ad ac dA tt h r5 e4) rfl (lw_U q690 q1860 q1861 q656 q138 q657) cyX15_here rfl (Classical.choose_spec (obXC_80 ad ac dA tt h)) rfl ⟨(Nat.le_of_ble_eq_true rfl), (Nat.le_of_ble_eq_true rfl)⟩ (Nat.le_of_ble_eq_true rfl) dX15_sees_9 ⟨Nat.le_of_ble_eq_true rfl, Nat.le_of_ble_eq_true rfl⟩ rfl ?_
        refine tm_iload_n X 2 dX15_sees_12 rfl rfl ?_
        refine tm_ic_gt X 20 dX15_sees_13 rfl ?_ ?_
        · skip
          refine tm_lv X [] rfl ?_
          exact hk20
        · skip
          refine tm_iconst X (1 : Int32) dX15_sees_16 (by decide) ?_
          refine tm_goto X 21 dX15_sees_17 rfl ?_
          refine tm_lv X [] rfl ?_
          exact hk21 (1 : Int32)
set_option maxHeartbeats 4000000 in
theorem ctX15_sees_85 (l : Launch) (D : va_G) (ad ac : Nat → Nat) (dA : Nat → ClassId) (tt : (Nat → Option Nat) × (Nat → Option Nat) × va_W) (h : Hp) (x1 : Int32) (x2 : Int32) (r : Int32) (hm : mX15_sees 85 h x1 x2 = some r) : CT l yX15_sees cX15_sees 3 (some .boolean) D dA 1 20 0 0 (wXG ad ac dA tt h) [.ref (ac 85), .int x1, .int x2] (some (.int r)) (wXG ad ac dA tt h) := by
  refine ct_open (by decide) (Nat.le_of_ble_eq_true rfl) ?_
  intro G X hI hZ hV hR
  have hRet := fun hv => hZ rfl r hv rfl
  refine (show TM G r (mX15_sees 85 h x1 x2) (wXG ad ac dA tt h) 0 0 0 [(0, .ref (ac 85)), (1, .int x1), (2, .int x2)] [] from ?_) hm
  clear hm hI hZ hV hR
  unfold mX15_sees
  refine tm_aload_n X 0 dX15_sees_0 rfl rfl ?_
  refine tm_cl1 (fun r2 e1 => ?_)
  refine tm_callUi (As := []) (rest := []) (q0 := (35 + tt.2.2.length + 0)) X (ctX15_here_85 l D ad ac dA tt h r2 e1) rfl (lw_U q690 q1860 q1862 q656 q138 q657) cyX15_here rfl (Classical.choose_spec (obXG_85 ad ac dA tt h)) rfl ⟨(Nat.le_of_ble_eq_true rfl), (Nat.le_of_ble_eq_true rfl)⟩ (Nat.le_of_ble_eq_true rfl) dX15_sees_1 ⟨Nat.le_of_ble_eq_true rfl, Nat.le_of_ble_eq_true rfl⟩ rfl ?_
  refine tm_iload_n X 1 dX15_sees_4 rfl rfl ?_
  refine tm_let (fun k => ∀ (s3 : Int32), TM G r (k s3) (wXG ad ac dA tt h) 0 0 21 [] [.int s3]) ?_ (fun k21 hk21 => ?_)
  · intro s3
    exact tm_retZ hRet dX15_sees_21
  · skip
    refine tm_let (fun k => TM G r k (wXG ad ac dA tt h) 0 0 20 [] []) ?_ (fun k20 hk20 => ?_)
    · skip
      refine tm_iconst X (0 : Int32) dX15_sees_20 (by decide) ?_
      exact hk21 (0 : Int32)
    · skip
      refine tm_ic_lt X 20 dX15_sees_5 rfl ?_ ?_
      · skip
        refine tm_lv X [] rfl ?_
        exact hk20
      · skip
        refine tm_aload_n X 0 dX15_sees_8 rfl rfl ?_
        refine tm_cl1 (fun r5 e4 => ?_)
        refine tm_callUi (As := []) (rest := []) (q0 := (35 + tt.2.2.length + 0)) X (ctX15_here_85 l D ad ac dA tt h r5 e4) rfl (lw_U q690 q1860 q1862 q656 q138 q657) cyX15_here rfl (Classical.choose_spec (obXG_85 ad ac dA tt h)) rfl ⟨(Nat.le_of_ble_eq_true rfl), (Nat.le_of_ble_eq_true rfl)⟩ (Nat.le_of_ble_eq_true rfl) dX15_sees_9 ⟨Nat.le_of_ble_eq_true rfl, Nat.le_of_ble_eq_true rfl⟩ rfl ?_
        refine tm_iload_n X 2 dX15_sees_12 rfl rfl ?_
        refine tm_ic_gt X 20 dX15_sees_13 rfl ?_ ?_
        · skip
          refine tm_lv X [] rfl ?_
          exact hk20
        · skip
          refine tm_iconst X (1 : Int32) dX15_sees_16 (by decide) ?_
          refine tm_goto X 21 dX15_sees_17 rfl ?_
          refine tm_lv X [] rfl ?_
          exact hk21 (1 : Int32)
def mX15_must (b : Nat) (h : Hp) (x1 : Int32) : Option (Hp) :=
cl1 (mX15_isGood b h) (fun r2 =>
nm (fun (h3 : Hp) =>
nm (u2 h3 b 1 ((h3 b 1) + (1 : Int32))) (fun h4 =>
some h4)) (fun k24 =>
if r2 = 0 then (
k24 h) else (
cl1 (mX15_here b h) (fun r6 =>
if r6 = x1 then (
k24 h) else (
cl1 (mX15_bad b h (1 : Int32) (h b 1)) (fun h8 =>
k24 h8))))))
theorem cyX15_must : Callee yX15_must 1 := by unfold Callee; decide +kernel
set_option maxHeartbeats 4000000 in
theorem ctX15_must_80 (l : Launch) (D : va_G) (ad ac : Nat → Nat) (dA : Nat → ClassId) (tt : (Nat → Option Nat) × (Nat → Option Nat) × va_W) (h : Hp) (x1 : Int32) (h' : Hp) (hm : mX15_must 80 h x1 = some h') : CT l yX15_must cX15_must 2 none D dA 1 22 0 0 (wXC ad ac dA tt h) [.ref (ac 80), .int x1] none (wXC ad ac dA tt h') := by
  refine ct_open (by decide) (Nat.le_of_ble_eq_true rfl) ?_
  intro G X hI hZ hV hR
  have hRet := hV rfl rfl
  refine (show TM G h' (mX15_must 80 h x1) (wXC ad ac dA tt h) 0 0 0 [(0, .ref (ac 80)), (1, .int x1)] [] from ?_) hm
  clear hm hI hZ hV hR
  unfold mX15_must
  refine tm_aload_n X 0 dX15_must_0 rfl rfl ?_
  refine tm_cl1 (fun r2 e1 => ?_)
  refine tm_callUi (As := []) (rest := []) (q0 := (35 + tt.2.2.length + 0)) X (ctX15_isGood_80 l D ad ac dA tt h r2 e1) rfl (lw_U q689 q1857 q1858 q680 q138 q681) cyX15_isGood rfl (Classical.choose_spec (obXC_80 ad ac dA tt h)) rfl ⟨(Nat.le_of_ble_eq_true rfl), (Nat.le_of_ble_eq_true rfl)⟩ (Nat.le_of_ble_eq_true rfl) dX15_must_1 ⟨Nat.le_of_ble_eq_true rfl, Nat.le_of_ble_eq_true rfl⟩ rfl ?_
  refine tm_let (fun k => ∀ (h3 : Hp), TM G h' (k h3) (wXC ad ac dA tt h3) 0 0 24 [(0, .ref (ac 80))] []) ?_ (fun k24 hk24 => ?_)
  · intro h3
    refine tm_aload_n X 0 dX15_must_24 rfl rfl ?_
    refine tm_dup X dX15_must_25 rfl ?_
    refine tm_getI X (fiXC_80_1 ad ac dA tt) in_X16 rfl (Nat.le_of_ble_eq_true rfl) q621 rfl dX15_must_26 ?_
    refine tm_iconst X (1 : Int32) dX15_must_29 (by decide) ?_
    refine tm_iadd X dX15_must_30 ?_
    refine tm_putIA X (fiXC_80_1 ad ac dA tt) in_X16 rfl (Nat.le_of_ble_eq_true rfl) (apart16 D dA) rfl rfl q621 rfl dX15_must_31 (fun h4 => ?_)
    exact tm_retV (wf := wXC ad ac dA tt) hRet dX15_must_34
  · skip
    refine tm_if_eq X 24 dX15_must_4 rfl ?_ ?_
    · skip
      refine tm_lv X [0] rfl ?_
      exact hk24 h
    · skip
      refine tm_aload_n X 0 dX15_must_7 rfl rfl ?_
      refine tm_cl1 (fun r6 e5 => ?_)
      refine tm_callUi (As := []) (rest := []) (q0 := (35 + tt.2.2.length + 0)) X (ctX15_here_80 l D ad ac dA tt h r6 e5) rfl (lw_U q690 q1860 q1861 q656 q138 q657) cyX15_here rfl (Classical.choose_spec (obXC_80 ad ac dA tt h)) rfl ⟨(Nat.le_of_ble_eq_true rfl), (Nat.le_of_ble_eq_true rfl)⟩ (Nat.le_of_ble_eq_true rfl) dX15_must_8 ⟨Nat.le_of_ble_eq_true rfl, Nat.le_of_ble_eq_true rfl⟩ rfl ?_
      refine tm_iload_n X 1 dX15_must_11 rfl rfl ?_
      refine tm_ic_eq X 24 dX15_must_12 rfl ?_ ?_
      · skip
        refine tm_lv X [0] rfl ?_
        exact hk24 h
      · skip
        refine tm_aload_n X 0 dX15_must_15 rfl rfl ?_
        refine tm_iconst X (1 : Int32) dX15_must_16 (by decide) ?_
        refine tm_aload_n X 0 dX15_must_17 rfl rfl ?_
        refine tm_getI X (fiXC_80_1 ad ac dA tt) in_X16 rfl (Nat.le_of_ble_eq_true rfl) q621 rfl dX15_must_18 ?_
        refine tm_cl1 (fun h8 e7 => ?_)
        refine tm_callUv (As := [.int (1 : Int32), .int (h 80 1)]) (rest := []) (q0 := (35 + tt.2.2.length + 0)) X (ctX15_bad_80 l D ad ac dA tt h (1 : Int32) (h 80 1) h8 e7) rfl (lw_U q691 q1863 q1864 q668 q138 q669) cyX15_bad rfl (Classical.choose_spec (obXC_80 ad ac dA tt h)) rfl ⟨(Nat.le_of_ble_eq_true rfl), (Nat.le_of_ble_eq_true rfl)⟩ (Nat.le_of_ble_eq_true rfl) dX15_must_21 ⟨Nat.le_of_ble_eq_true rfl, Nat.le_of_ble_eq_true rfl⟩ rfl ?_
        refine tm_lv X [0] rfl ?_
        exact hk24 h8
def mX15_times (b : Nat) (h : Hp) (x1 : Int32) : Option (Int32 × Hp) :=
cl1 (mX15_sees b h (50 : Int32) x1) (fun r2 =>
nm (fun (s3 : Int32) =>
nm (fun (h4 : Hp) =>
some (s3, h4)) (fun k37 =>
if s3 ≤ (1 : Int32) then (
k37 h) else (
nm (u2 h b 1 ((h b 1) + (1 : Int32))) (fun h5 =>
k37 h5)))) (fun k21 =>
if r2 = 0 then (
k21 (1 : Int32)) else (
cl1 (mX15_here b h) (fun r7 =>
k21 (r7 - (48 : Int32))))))
theorem cyX15_times : Callee yX15_times 1 := by unfold Callee; decide +kernel
set_option maxHeartbeats 4000000 in
theorem ctX15_times_80 (l : Launch) (D : va_G) (ad ac : Nat → Nat) (dA : Nat → ClassId) (tt : (Nat → Option Nat) × (Nat → Option Nat) × va_W) (h : Hp) (x1 : Int32) (r : Int32) (h' : Hp) (hm : mX15_times 80 h x1 = some (r, h')) : CT l yX15_times cX15_times 3 (some .int) D dA 2 42 0 0 (wXC ad ac dA tt h) [.ref (ac 80), .int x1] (some (.int r)) (wXC ad ac dA tt h') := by
  refine ct_open (by decide) (Nat.le_of_ble_eq_true rfl) ?_
  intro G X hI hZ hV hR
  have hRet := hI rfl r rfl
  refine (show TM G (r, h') (mX15_times 80 h x1) (wXC ad ac dA tt h) 0 0 0 [(0, .ref (ac 80)), (1, .int x1)] [] from ?_) hm
  clear hm hI hZ hV hR
  unfold mX15_times
  refine tm_aload_n X 0 dX15_times_0 rfl rfl ?_
  refine tm_bipush X (50 : Int32) dX15_times_1 (by decide) ?_
  refine tm_iload_n X 1 dX15_times_3 rfl rfl ?_
  refine tm_cl1 (fun r2 e1 => ?_)
  refine tm_callUi (As := [.int (50 : Int32), .int x1]) (rest := []) (q0 := (35 + tt.2.2.length + 0)) X (ctX15_sees_80 l D ad ac dA tt h (50 : Int32) x1 r2 e1) rfl (lw_U q702 q704 q705 q703 q138 q707) cyX15_sees rfl (Classical.choose_spec (obXC_80 ad ac dA tt h)) rfl ⟨(Nat.le_of_ble_eq_true rfl), (Nat.le_of_ble_eq_true rfl)⟩ (Nat.le_of_ble_eq_true rfl) dX15_times_4 ⟨Nat.le_of_ble_eq_true rfl, Nat.le_of_ble_eq_true rfl⟩ rfl ?_
  refine tm_let (fun k => ∀ (s3 : Int32), TM G (r, h') (k s3) (wXC ad ac dA tt h) 0 0 21 [(0, .ref (ac 80))] [.int s3]) ?_ (fun k21 hk21 => ?_)
  · intro s3
    refine tm_istore_n X [(2, .int s3), (0, .ref (ac 80))] dX15_times_21 rfl (Nat.le_of_ble_eq_true rfl) rfl ?_
    refine tm_iload_n X 0 dX15_times_22 rfl rfl ?_
    refine tm_iconst X (1 : Int32) dX15_times_23 (by decide) ?_
    refine tm_let (fun k => ∀ (h4 : Hp), TM G (r, h') (k h4) (wXC ad ac dA tt h4) 0 0 37 [(2, .int s3)] []) ?_ (fun k37 hk37 => ?_)
    · intro h4
      refine tm_iload_n X 0 dX15_times_37 rfl rfl ?_
      exact tm_retIH (wf := wXC ad ac dA tt) hRet dX15_times_38
    · skip
      refine tm_ic_le X 37 dX15_times_24 rfl ?_ ?_
      · skip
        refine tm_lv X [0] rfl ?_
        exact hk37 h
      · skip
        refine tm_aload_n X 1 dX15_times_27 rfl rfl ?_
        refine tm_dup X dX15_times_28 rfl ?_
        refine tm_getI X (fiXC_80_1 ad ac dA tt) in_X16 rfl (Nat.le_of_ble_eq_true rfl) q621 rfl dX15_times_29 ?_
        refine tm_iconst X (1 : Int32) dX15_times_32 (by decide) ?_
        refine tm_iadd X dX15_times_33 ?_
        refine tm_putIA X (fiXC_80_1 ad ac dA tt) in_X16 rfl (Nat.le_of_ble_eq_true rfl) (apart16 D dA) rfl rfl q621 rfl dX15_times_34 (fun h5 => ?_)
        refine tm_lv X [0] rfl ?_
        exact hk37 h5
  · skip
    refine tm_if_eq X 20 dX15_times_7 rfl ?_ ?_
    · skip
      refine tm_iconst X (1 : Int32) dX15_times_20 (by decide) ?_
      refine tm_lv X [0] rfl ?_
      exact hk21 (1 : Int32)
    · skip
      refine tm_aload_n X 0 dX15_times_10 rfl rfl ?_
      refine tm_cl1 (fun r7 e6 => ?_)
      refine tm_callUi (As := []) (rest := []) (q0 := (35 + tt.2.2.length + 0)) X (ctX15_here_80 l D ad ac dA tt h r7 e6) rfl (lw_U q690 q1860 q1861 q656 q138 q657) cyX15_here rfl (Classical.choose_spec (obXC_80 ad ac dA tt h)) rfl ⟨(Nat.le_of_ble_eq_true rfl), (Nat.le_of_ble_eq_true rfl)⟩ (Nat.le_of_ble_eq_true rfl) dX15_times_11 ⟨Nat.le_of_ble_eq_true rfl, Nat.le_of_ble_eq_true rfl⟩ rfl ?_
      refine tm_bipush X (48 : Int32) dX15_times_14 (by decide) ?_
      refine tm_isub X dX15_times_16 ?_
      refine tm_goto X 21 dX15_times_17 rfl ?_
      refine tm_lv X [0] rfl ?_
      exact hk21 (r7 - (48 : Int32))
set_option maxHeartbeats 4000000 in
theorem ctX15_times_85 (l : Launch) (D : va_G) (ad ac : Nat → Nat) (dA : Nat → ClassId) (tt : (Nat → Option Nat) × (Nat → Option Nat) × va_W) (h : Hp) (x1 : Int32) (r : Int32) (h' : Hp) (hm : mX15_times 85 h x1 = some (r, h')) : CT l yX15_times cX15_times 3 (some .int) D dA 2 42 0 0 (wXG ad ac dA tt h) [.ref (ac 85), .int x1] (some (.int r)) (wXG ad ac dA tt h') := by
  refine ct_open (by decide) (Nat.le_of_ble_eq_true rfl) ?_
  intro G X hI hZ hV hR
  have hRet := hI rfl r rfl
  refine (show TM G (r, h') (mX15_times 85 h x1) (wXG ad ac dA tt h) 0 0 0 [(0, .ref (ac 85)), (1, .int x1)] [] from ?_) hm
  clear hm hI hZ hV hR
  unfold mX15_times
  refine tm_aload_n X 0 dX15_times_0 rfl rfl ?_
  refine tm_bipush X (50 : Int32) dX15_times_1 (by decide) ?_
  refine tm_iload_n X 1 dX15_times_3 rfl rfl ?_
  refine tm_cl1 (fun r2 e1 => ?_)
  refine tm_callUi (As := [.int (50 : Int32), .int x1]) (rest := []) (q0 := (35 + tt.2.2.length + 0)) X (ctX15_sees_85 l D ad ac dA tt h (50 : Int32) x1 r2 e1) rfl (lw_U q702 q704 q706 q703 q138 q707) cyX15_sees rfl (Classical.choose_spec (obXG_85 ad ac dA tt h)) rfl ⟨(Nat.le_of_ble_eq_true rfl), (Nat.le_of_ble_eq_true rfl)⟩ (Nat.le_of_ble_eq_true rfl) dX15_times_4 ⟨Nat.le_of_ble_eq_true rfl, Nat.le_of_ble_eq_true rfl⟩ rfl ?_
  refine tm_let (fun k => ∀ (s3 : Int32), TM G (r, h') (k s3) (wXG ad ac dA tt h) 0 0 21 [(0, .ref (ac 85))] [.int s3]) ?_ (fun k21 hk21 => ?_)
  · intro s3
    refine tm_istore_n X [(2, .int s3), (0, .ref (ac 85))] dX15_times_21 rfl (Nat.le_of_ble_eq_true rfl) rfl ?_
    refine tm_iload_n X 0 dX15_times_22 rfl rfl ?_
    refine tm_iconst X (1 : Int32) dX15_times_23 (by decide) ?_
    refine tm_let (fun k => ∀ (h4 : Hp), TM G (r, h') (k h4) (wXG ad ac dA tt h4) 0 0 37 [(2, .int s3)] []) ?_ (fun k37 hk37 => ?_)
    · intro h4
      refine tm_iload_n X 0 dX15_times_37 rfl rfl ?_
      exact tm_retIH (wf := wXG ad ac dA tt) hRet dX15_times_38
    · skip
      refine tm_ic_le X 37 dX15_times_24 rfl ?_ ?_
      · skip
        refine tm_lv X [0] rfl ?_
        exact hk37 h
      · skip
        refine tm_aload_n X 1 dX15_times_27 rfl rfl ?_
        refine tm_dup X dX15_times_28 rfl ?_
        refine tm_getI X (fiXG_85_1 ad ac dA tt) in_X17 rfl (Nat.le_of_ble_eq_true rfl) q621 rfl dX15_times_29 ?_
        refine tm_iconst X (1 : Int32) dX15_times_32 (by decide) ?_
        refine tm_iadd X dX15_times_33 ?_
        refine tm_putIA X (fiXG_85_1 ad ac dA tt) in_X17 rfl (Nat.le_of_ble_eq_true rfl) (apart17 D dA) rfl rfl q621 rfl dX15_times_34 (fun h5 => ?_)
        refine tm_lv X [0] rfl ?_
        exact hk37 h5
  · skip
    refine tm_if_eq X 20 dX15_times_7 rfl ?_ ?_
    · skip
      refine tm_iconst X (1 : Int32) dX15_times_20 (by decide) ?_
      refine tm_lv X [0] rfl ?_
      exact hk21 (1 : Int32)
    · skip
      refine tm_aload_n X 0 dX15_times_10 rfl rfl ?_
      refine tm_cl1 (fun r7 e6 => ?_)
      refine tm_callUi (As := []) (rest := []) (q0 := (35 + tt.2.2.length + 0)) X (ctX15_here_85 l D ad ac dA tt h r7 e6) rfl (lw_U q690 q1860 q1862 q656 q138 q657) cyX15_here rfl (Classical.choose_spec (obXG_85 ad ac dA tt h)) rfl ⟨(Nat.le_of_ble_eq_true rfl), (Nat.le_of_ble_eq_true rfl)⟩ (Nat.le_of_ble_eq_true rfl) dX15_times_11 ⟨Nat.le_of_ble_eq_true rfl, Nat.le_of_ble_eq_true rfl⟩ rfl ?_
      refine tm_bipush X (48 : Int32) dX15_times_14 (by decide) ?_
      refine tm_isub X dX15_times_16 ?_
      refine tm_goto X 21 dX15_times_17 rfl ?_
      refine tm_lv X [0] rfl ?_
      exact hk21 (r7 - (48 : Int32))
