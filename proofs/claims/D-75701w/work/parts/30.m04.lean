set_option maxRecDepth 100000
def mX5_marks (h : Hp) (x1 : Int32) (x2 : Int32) (x3 : Int32) : Option (Int32 × Hp) :=
cl1 (mX5_opening h x1 x2) (fun r2 =>
cl1 (mX5_max (0 : Int32) (r2 - x3)) (fun r3 =>
fx FU (fun _ _ _ => none) (fun k20 (x5_5 : Int32) (x6_6 : Int32) (h7 : Hp) =>
if (48 : Int32) ≤ x6_6 then (
some (x5_5, h7)) else (
cl1 (mX5_sumAt h7 x6_6 x1 x2) (fun r9 =>
nm (fun (s10 : Int32) =>
ck x6_6 48 (nm (u2 h7 242 x6_6.toNatClampNeg (vp_nar .boolean s10)) (fun h11 =>
ck x6_6 48 (
nm (fun (x5_12 : Int32) =>
k20 x5_12 (x6_6 + (1 : Int32)) h11) (fun k68 =>
if (h11 242 x6_6.toNatClampNeg) = 0 then (
k68 x5_5) else (
nm ((x5_5 + (1 : Int32))) (fun v13 =>
k68 v13))))))) (fun k51 =>
if r9 < r3 then (
k51 (0 : Int32)) else (
k51 (1 : Int32)))))) (0 : Int32) (0 : Int32) h))
theorem cyX5_marks : Callee yX5_marks 3 := by unfold Callee; decide +kernel
set_option maxHeartbeats 4000000 in
theorem ctX5_marks (l : Launch) (D : va_G) (ad : Nat → Nat) (dA : Nat → ClassId) (h : Hp) (x1 : Int32) (x2 : Int32) (x3 : Int32) (r : Int32) (h' : Hp) (hm : mX5_marks h x1 x2 x3 = some (r, h')) : CT l yX5_marks cX5_marks 7 (some .int) D dA 4 94 0 0 (wM ad dA h) [.ref (ad 300), .int x1, .int x2, .int x3] (some (.int r)) (wM ad dA h') := by
  refine ct_open (by decide) (Nat.le_of_ble_eq_true rfl) ?_
  intro G X hI hZ hV hR
  have hRet := hI rfl r rfl
  refine (show TM G (r, h') (mX5_marks h x1 x2 x3) (wM ad dA h) 0 0 0 [(0, .ref (ad 300)), (1, .int x1), (2, .int x2), (3, .int x3)] [] from ?_) hm
  clear hm hI hZ hV hR
  unfold mX5_marks
  refine tm_iconst X (0 : Int32) dX5_marks_0 (by decide) ?_
  refine tm_aload_n X 0 dX5_marks_1 rfl rfl ?_
  refine tm_iload_n X 1 dX5_marks_2 rfl rfl ?_
  refine tm_iload_n X 2 dX5_marks_3 rfl rfl ?_
  refine tm_cl1 (fun r2 e1 => ?_)
  refine tm_callVi (As := [.int x1, .int x2]) (rest := [.int (0 : Int32)]) (q0 := 0) X (ctX5_opening l D ad dA h x1 x2 r2 e1) (lw_V q1520 q1522 qs75 q122 q1523) cyX5_opening rfl rfl rfl ⟨(Nat.le_of_ble_eq_true rfl), (Nat.le_of_ble_eq_true rfl)⟩ (Nat.le_of_ble_eq_true rfl) dX5_marks_4 ⟨Nat.le_of_ble_eq_true rfl, Nat.le_of_ble_eq_true rfl⟩ rfl ?_
  refine tm_iload_n X 3 dX5_marks_7 rfl rfl ?_
  refine tm_isub X dX5_marks_8 ?_
  refine tm_cl1 (fun r3 e4 => ?_)
  refine tm_callSi (As := [.int (0 : Int32), .int (r2 - x3)]) (rest := []) X (ctX5_max l D dA (0 : Int32) (r2 - x3) r3 e4) (lw_S q1539 q1540 q122 q1541) cyX5_max rfl ⟨(Nat.le_of_ble_eq_true rfl), (Nat.le_of_ble_eq_true rfl)⟩ (Nat.le_of_ble_eq_true rfl) dX5_marks_9 ⟨Nat.le_of_ble_eq_true rfl, Nat.le_of_ble_eq_true rfl⟩ rfl ?_
  refine tm_istore X [(4, .int r3), (0, .ref (ad 300)), (1, .int x1), (2, .int x2), (3, .int x3)] dX5_marks_12 (Nat.le_of_ble_eq_true rfl) rfl ?_
  refine tm_iconst X (0 : Int32) dX5_marks_14 (by decide) ?_
  refine tm_istore X [(5, .int (0 : Int32)), (4, .int r3), (0, .ref (ad 300)), (1, .int x1), (2, .int x2), (3, .int x3)] dX5_marks_15 (Nat.le_of_ble_eq_true rfl) rfl ?_
  refine tm_iconst X (0 : Int32) dX5_marks_17 (by decide) ?_
  refine tm_istore X [(6, .int (0 : Int32)), (5, .int (0 : Int32)), (4, .int r3), (0, .ref (ad 300)), (1, .int x1), (2, .int x2), (3, .int x3)] dX5_marks_18 (Nat.le_of_ble_eq_true rfl) rfl ?_
  refine tm_lv X [3, 4, 5, 2, 1, 0] rfl ?_
  refine fx_P (fun (k : Int32 → Int32 → Hp → Option (Int32 × Hp)) => ∀ (x5_5 : Int32) (x6_6 : Int32) (h7 : Hp), TM G (r, h') (k x5_5 x6_6 h7) (wM ad dA h7) 0 0 20 [(0, .ref (ad 300)), (1, .int x1), (2, .int x2), (4, .int r3), (5, .int x5_5), (6, .int x6_6)] []) (fun _ _ _ => tm_none) (fun k20 hk20 x5_5 x6_6 h7 => ?_) FU (0 : Int32) (0 : Int32) h
  refine tm_iload X 5 dX5_marks_20 rfl ?_
  refine tm_bipush X (48 : Int32) dX5_marks_22 (by decide) ?_
  refine tm_ic_ge X 74 dX5_marks_24 rfl ?_ ?_
  · skip
    refine tm_iload X 4 dX5_marks_74 rfl ?_
    exact tm_retIH (wf := wM ad dA) hRet dX5_marks_76
  · skip
    refine tm_aload_n X 0 dX5_marks_27 rfl rfl ?_
    refine tm_getR X (frM_300_42 ad dA h7) in_X5 rfl (Nat.le_of_ble_eq_true rfl) q1229 rfl dX5_marks_28 ?_
    refine tm_iload X 5 dX5_marks_31 rfl ?_
    refine tm_aload_n X 0 dX5_marks_33 rfl rfl ?_
    refine tm_iload X 5 dX5_marks_34 rfl ?_
    refine tm_iload_n X 1 dX5_marks_36 rfl rfl ?_
    refine tm_iload_n X 2 dX5_marks_37 rfl rfl ?_
    refine tm_cl1 (fun r9 e8 => ?_)
    refine tm_callVi (As := [.int x6_6, .int x1, .int x2]) (rest := [.int x6_6, .ref (ad 242)]) (q0 := 0) X (ctX5_sumAt l D ad dA h7 x6_6 x1 x2 r9 e8) (lw_V q1524 q1526 qs76 q122 q1527) cyX5_sumAt rfl rfl rfl ⟨(Nat.le_of_ble_eq_true rfl), (Nat.le_of_ble_eq_true rfl)⟩ (Nat.le_of_ble_eq_true rfl) dX5_marks_38 ⟨Nat.le_of_ble_eq_true rfl, Nat.le_of_ble_eq_true rfl⟩ rfl ?_
    refine tm_iload X 3 dX5_marks_41 rfl ?_
    refine tm_let (fun k => ∀ (s10 : Int32), TM G (r, h') (k s10) (wM ad dA h7) 0 0 51 [(0, .ref (ad 300)), (1, .int x1), (2, .int x2), (4, .int r3), (5, .int x5_5), (6, .int x6_6)] [.int s10, .int x6_6, .ref (ad 242)]) ?_ (fun k51 hk51 => ?_)
    · intro s10
      refine tm_bastoreZ X (arM_242 ad dA) dX5_marks_51 (fun h11 => ?_)
      refine tm_aload_n X 0 dX5_marks_52 rfl rfl ?_
      refine tm_getR X (frM_300_42 ad dA h11) in_X5 rfl (Nat.le_of_ble_eq_true rfl) q1229 rfl dX5_marks_53 ?_
      refine tm_iload X 5 dX5_marks_56 rfl ?_
      refine tm_baloadZ X (arM_242 ad dA) dX5_marks_58 ?_
      refine tm_let (fun k => ∀ (x5_12 : Int32), TM G (r, h') (k x5_12) (wM ad dA h11) 0 0 68 [(0, .ref (ad 300)), (1, .int x1), (2, .int x2), (4, .int r3), (5, .int x5_12), (6, .int x6_6)] []) ?_ (fun k68 hk68 => ?_)
      · intro x5_12
        refine tm_iinc (v := (1 : Int32)) X 5 [(6, .int (x6_6 + (1 : Int32))), (0, .ref (ad 300)), (1, .int x1), (2, .int x2), (4, .int r3), (5, .int x5_12)] dX5_marks_68 rfl (by decide) (Nat.le_of_ble_eq_true rfl) rfl ?_
        refine tm_goto X 20 dX5_marks_71 rfl ?_
        refine tm_lv X [1, 2, 3, 4, 5, 0] rfl ?_
        exact hk20 x5_12 (x6_6 + (1 : Int32)) h11
      · skip
        refine tm_if_eq X 68 dX5_marks_59 rfl ?_ ?_
        · skip
          exact hk68 x5_5
        · skip
          refine tm_iload X 4 dX5_marks_62 rfl ?_
          refine tm_iconst X (1 : Int32) dX5_marks_64 (by decide) ?_
          refine tm_iadd X dX5_marks_65 ?_
          refine tm_nmI (fun v13 => ?_)
          refine tm_istore X [(5, .int v13), (0, .ref (ad 300)), (1, .int x1), (2, .int x2), (4, .int r3), (6, .int x6_6)] dX5_marks_66 (Nat.le_of_ble_eq_true rfl) rfl ?_
          refine tm_lv X [1, 2, 3, 4, 0, 5] rfl ?_
          exact hk68 v13
    · skip
      refine tm_ic_lt X 50 dX5_marks_43 rfl ?_ ?_
      · skip
        refine tm_iconst X (0 : Int32) dX5_marks_50 (by decide) ?_
        exact hk51 (0 : Int32)
      · skip
        refine tm_iconst X (1 : Int32) dX5_marks_46 (by decide) ?_
        refine tm_goto X 51 dX5_marks_47 rfl ?_
        exact hk51 (1 : Int32)
def mX5_firstMarked (h : Hp)  : Option (Int32) :=
fx FU (fun _ => none) (fun k2 (x1_1 : Int32) =>
ck x1_1 48 (
if (h 242 x1_1.toNatClampNeg) = 0 then (
nm ((x1_1 + (1 : Int32))) (fun v2 =>
k2 v2)) else (
some x1_1))) (0 : Int32)
theorem cyX5_firstMarked : Callee yX5_firstMarked 0 := by unfold Callee; decide +kernel
set_option maxHeartbeats 4000000 in
theorem ctX5_firstMarked (l : Launch) (D : va_G) (ad : Nat → Nat) (dA : Nat → ClassId) (h : Hp)  (r : Int32) (hm : mX5_firstMarked h = some r) : CT l yX5_firstMarked cX5_firstMarked 2 (some .int) D dA 0 0 0 0 (wM ad dA h) [.ref (ad 300)] (some (.int r)) (wM ad dA h) := by
  refine ct_open (by decide) (Nat.le_of_ble_eq_true rfl) ?_
  intro G X hI hZ hV hR
  have hRet := hI rfl r rfl
  refine (show TM G r (mX5_firstMarked h) (wM ad dA h) 0 0 0 [(0, .ref (ad 300))] [] from ?_) hm
  clear hm hI hZ hV hR
  unfold mX5_firstMarked
  refine tm_iconst X (0 : Int32) dX5_firstMarked_0 (by decide) ?_
  refine tm_istore_n X [(1, .int (0 : Int32)), (0, .ref (ad 300))] dX5_firstMarked_1 rfl (Nat.le_of_ble_eq_true rfl) rfl ?_
  refine tm_lv X [1, 0] rfl ?_
  refine fx_P (fun (k : Int32 → Option (Int32)) => ∀ (x1_1 : Int32), TM G r (k x1_1) (wM ad dA h) 0 0 2 [(0, .ref (ad 300)), (1, .int x1_1)] []) (fun _ => tm_none) (fun k2 hk2 x1_1 => ?_) FU (0 : Int32)
  refine tm_aload_n X 0 dX5_firstMarked_2 rfl rfl ?_
  refine tm_getR X (frM_300_42 ad dA h) in_X5 rfl (Nat.le_of_ble_eq_true rfl) q1229 rfl dX5_firstMarked_3 ?_
  refine tm_iload_n X 1 dX5_firstMarked_6 rfl rfl ?_
  refine tm_baloadZ X (arM_242 ad dA) dX5_firstMarked_7 ?_
  refine tm_if_ne X 18 dX5_firstMarked_8 rfl ?_ ?_
  · skip
    refine tm_iload_n X 1 dX5_firstMarked_18 rfl rfl ?_
    exact tm_retI hRet dX5_firstMarked_19
  · skip
    refine tm_iload_n X 1 dX5_firstMarked_11 rfl rfl ?_
    refine tm_iconst X (1 : Int32) dX5_firstMarked_12 (by decide) ?_
    refine tm_iadd X dX5_firstMarked_13 ?_
    refine tm_nmI (fun v2 => ?_)
    refine tm_istore_n X [(1, .int v2), (0, .ref (ad 300))] dX5_firstMarked_14 rfl (Nat.le_of_ble_eq_true rfl) rfl ?_
    refine tm_goto X 2 dX5_firstMarked_15 rfl ?_
    refine tm_lv X [1, 0] rfl ?_
    exact hk2 v2
def mX5_facing (x0 : Int32) (x1 : Int32) : Option (Int32) :=
nm (fun (s1 : Int32) =>
nm (((8 : Int32) - s1)) (fun v2 =>
nm (fun (s3 : Int32) =>
nm (((6 : Int32) - s3)) (fun v4 =>
some (v2 * v4))) (fun k26 =>
if 0 ≤ x1 then (
k26 x1) else (
k26 (-x1))))) (fun k12 =>
if 0 ≤ x0 then (
k12 x0) else (
k12 (-x0)))
theorem cyX5_facing : Callee yX5_facing 2 := by unfold Callee; decide +kernel
set_option maxHeartbeats 4000000 in
theorem ctX5_facing (l : Launch) (D : va_G) (dA : Nat → ClassId) (x0 : Int32) (x1 : Int32) (r : Int32) (hm : mX5_facing x0 x1 = some r) : CT l yX5_facing cX5_facing 4 (some .int) D dA 0 0 0 0 [] [.int x0, .int x1] (some (.int r)) [] := by
  refine ct_open (by decide) (Nat.le_of_ble_eq_true rfl) ?_
  intro G X hI hZ hV hR
  have hRet := hI rfl r rfl
  refine (show TM G r (mX5_facing x0 x1) [] 0 0 0 [(0, .int x0), (1, .int x1)] [] from ?_) hm
  clear hm hI hZ hV hR
  unfold mX5_facing
  refine tm_bipush X (8 : Int32) dX5_facing_0 (by decide) ?_
  refine tm_iload_n X 0 dX5_facing_2 rfl rfl ?_
  refine tm_let (fun k => ∀ (s1 : Int32), TM G r (k s1) [] 0 0 12 [(1, .int x1)] [.int s1, .int (8 : Int32)]) ?_ (fun k12 hk12 => ?_)
  · intro s1
    refine tm_isub X dX5_facing_12 ?_
    refine tm_nmI (fun v2 => ?_)
    refine tm_istore_n X [(2, .int v2), (1, .int x1)] dX5_facing_13 rfl (Nat.le_of_ble_eq_true rfl) rfl ?_
    refine tm_bipush X (6 : Int32) dX5_facing_14 (by decide) ?_
    refine tm_iload_n X 1 dX5_facing_16 rfl rfl ?_
    refine tm_let (fun k => ∀ (s3 : Int32), TM G r (k s3) [] 0 0 26 [(2, .int v2)] [.int s3, .int (6 : Int32)]) ?_ (fun k26 hk26 => ?_)
    · intro s3
      refine tm_isub X dX5_facing_26 ?_
      refine tm_nmI (fun v4 => ?_)
      refine tm_istore_n X [(3, .int v4), (2, .int v2)] dX5_facing_27 rfl (Nat.le_of_ble_eq_true rfl) rfl ?_
      refine tm_iload_n X 1 dX5_facing_28 rfl rfl ?_
      refine tm_iload_n X 0 dX5_facing_29 rfl rfl ?_
      refine tm_imul X dX5_facing_30 ?_
      exact tm_retI hRet dX5_facing_31
    · skip
      refine tm_if_ge X 25 dX5_facing_17 rfl ?_ ?_
      · skip
        refine tm_iload_n X 1 dX5_facing_25 rfl rfl ?_
        refine tm_lv X [0] rfl ?_
        exact hk26 x1
      · skip
        refine tm_iload_n X 1 dX5_facing_20 rfl rfl ?_
        refine tm_ineg X dX5_facing_21 ?_
        refine tm_goto X 26 dX5_facing_22 rfl ?_
        refine tm_lv X [0] rfl ?_
        exact hk26 (-x1)
  · skip
    refine tm_if_ge X 11 dX5_facing_3 rfl ?_ ?_
    · skip
      refine tm_iload_n X 0 dX5_facing_11 rfl rfl ?_
      refine tm_lv X [1] rfl ?_
      exact hk12 x0
    · skip
      refine tm_iload_n X 0 dX5_facing_6 rfl rfl ?_
      refine tm_ineg X dX5_facing_7 ?_
      refine tm_goto X 12 dX5_facing_8 rfl ?_
      refine tm_lv X [1] rfl ?_
      exact hk12 (-x0)
def mX5_min (x0 : Int32) (x1 : Int32) : Option (Int32) :=
nm (fun (s1 : Int32) =>
some s1) (fun k10 =>
if x1 ≤ x0 then (
k10 x1) else (
k10 x0))
theorem cyX5_min : Callee yX5_min 2 := by unfold Callee; decide +kernel
set_option maxHeartbeats 4000000 in
theorem ctX5_min (l : Launch) (D : va_G) (dA : Nat → ClassId) (x0 : Int32) (x1 : Int32) (r : Int32) (hm : mX5_min x0 x1 = some r) : CT l yX5_min cX5_min 2 (some .int) D dA 0 0 0 0 [] [.int x0, .int x1] (some (.int r)) [] := by
  refine ct_open (by decide) (Nat.le_of_ble_eq_true rfl) ?_
  intro G X hI hZ hV hR
  have hRet := hI rfl r rfl
  refine (show TM G r (mX5_min x0 x1) [] 0 0 0 [(0, .int x0), (1, .int x1)] [] from ?_) hm
  clear hm hI hZ hV hR
  unfold mX5_min
  refine tm_iload_n X 0 dX5_min_0 rfl rfl ?_
  refine tm_iload_n X 1 dX5_min_1 rfl rfl ?_
  refine tm_let (fun k => ∀ (s1 : Int32), TM G r (k s1) [] 0 0 10 [] [.int s1]) ?_ (fun k10 hk10 => ?_)
  · intro s1
    exact tm_retI hRet dX5_min_10
  · skip
    refine tm_ic_ge X 9 dX5_min_2 rfl ?_ ?_
    · skip
      refine tm_iload_n X 1 dX5_min_9 rfl rfl ?_
      refine tm_lv X [] rfl ?_
      exact hk10 x1
    · skip
      refine tm_iload_n X 0 dX5_min_5 rfl rfl ?_
      refine tm_goto X 10 dX5_min_6 rfl ?_
      refine tm_lv X [] rfl ?_
      exact hk10 x0
def mX5_greatestGap (h : Hp) (x1 : Int32) (x2 : Int32) : Option (Int32) :=
fx FU (fun _ _ => none) (fun k7 (x3_1 : Int32) (x4_2 : Int32) =>
if (48 : Int32) ≤ x4_2 then (
cl1 (mX5_opening h x1 x2) (fun r4 =>
some (r4 - x3_1))) else (
cl1 (mX5_against x4_2 x1 x2) (fun r5 =>
nm (fun (x3_7 : Int32) =>
k7 x3_7 (x4_2 + (1 : Int32))) (fun k38 =>
if r5 = (-1 : Int32) then (
k38 x3_1) else (
cl1 (mX5_sumAt h x4_2 x1 x2) (fun r9 =>
cl1 (mX5_min x3_1 r9) (fun r10 =>
k38 r10))))))) (1000000 : Int32) (0 : Int32)
theorem cyX5_greatestGap : Callee yX5_greatestGap 2 := by unfold Callee; decide +kernel
set_option maxHeartbeats 4000000 in
theorem ctX5_greatestGap (l : Launch) (D : va_G) (ad : Nat → Nat) (dA : Nat → ClassId) (h : Hp) (x1 : Int32) (x2 : Int32) (r : Int32) (hm : mX5_greatestGap h x1 x2 = some r) : CT l yX5_greatestGap cX5_greatestGap 5 (some .int) D dA 4 94 0 0 (wM ad dA h) [.ref (ad 300), .int x1, .int x2] (some (.int r)) (wM ad dA h) := by
  refine ct_open (by decide) (Nat.le_of_ble_eq_true rfl) ?_
  intro G X hI hZ hV hR
  have hRet := hI rfl r rfl
  refine (show TM G r (mX5_greatestGap h x1 x2) (wM ad dA h) 0 0 0 [(0, .ref (ad 300)), (1, .int x1), (2, .int x2)] [] from ?_) hm
  clear hm hI hZ hV hR
  unfold mX5_greatestGap
  refine tm_ldcw X (1000000 : Int32) q1557 dX5_greatestGap_0 ?_
  refine tm_istore_n X [(3, .int (1000000 : Int32)), (0, .ref (ad 300)), (1, .int x1), (2, .int x2)] dX5_greatestGap_3 rfl (Nat.le_of_ble_eq_true rfl) rfl ?_
  refine tm_iconst X (0 : Int32) dX5_greatestGap_4 (by decide) ?_
  refine tm_istore X [(4, .int (0 : Int32)), (3, .int (1000000 : Int32)), (0, .ref (ad 300)), (1, .int x1), (2, .int x2)] dX5_greatestGap_5 (Nat.le_of_ble_eq_true rfl) rfl ?_
  refine tm_lv X [2, 3, 4, 1, 0] rfl ?_
  refine fx_P (fun (k : Int32 → Int32 → Option (Int32)) => ∀ (x3_1 : Int32) (x4_2 : Int32), TM G r (k x3_1 x4_2) (wM ad dA h) 0 0 7 [(0, .ref (ad 300)), (1, .int x1), (2, .int x2), (3, .int x3_1), (4, .int x4_2)] []) (fun _ _ => tm_none) (fun k7 hk7 x3_1 x4_2 => ?_) FU (1000000 : Int32) (0 : Int32)
  refine tm_iload X 4 dX5_greatestGap_7 rfl ?_
  refine tm_bipush X (48 : Int32) dX5_greatestGap_9 (by decide) ?_
  refine tm_ic_ge X 44 dX5_greatestGap_11 rfl ?_ ?_
  · skip
    refine tm_aload_n X 0 dX5_greatestGap_44 rfl rfl ?_
    refine tm_iload_n X 1 dX5_greatestGap_45 rfl rfl ?_
    refine tm_iload_n X 2 dX5_greatestGap_46 rfl rfl ?_
    refine tm_cl1 (fun r4 e3 => ?_)
    refine tm_callVi (As := [.int x1, .int x2]) (rest := []) (q0 := 0) X (ctX5_opening l D ad dA h x1 x2 r4 e3) (lw_V q1520 q1522 qs75 q122 q1523) cyX5_opening rfl rfl rfl ⟨(Nat.le_of_ble_eq_true rfl), (Nat.le_of_ble_eq_true rfl)⟩ (Nat.le_of_ble_eq_true rfl) dX5_greatestGap_47 ⟨Nat.le_of_ble_eq_true rfl, Nat.le_of_ble_eq_true rfl⟩ rfl ?_
    refine tm_iload_n X 3 dX5_greatestGap_50 rfl rfl ?_
    refine tm_isub X dX5_greatestGap_51 ?_
    exact tm_retI hRet dX5_greatestGap_52
  · skip
    refine tm_iload X 4 dX5_greatestGap_14 rfl ?_
    refine tm_iload_n X 1 dX5_greatestGap_16 rfl rfl ?_
    refine tm_iload_n X 2 dX5_greatestGap_17 rfl rfl ?_
    refine tm_cl1 (fun r5 e6 => ?_)
    refine tm_callSi (As := [.int x4_2, .int x1, .int x2]) (rest := []) X (ctX5_against l D dA x4_2 x1 x2 r5 e6) (lw_S q1528 q1529 q122 q1530) cyX5_against rfl ⟨(Nat.le_of_ble_eq_true rfl), (Nat.le_of_ble_eq_true rfl)⟩ (Nat.le_of_ble_eq_true rfl) dX5_greatestGap_18 ⟨Nat.le_of_ble_eq_true rfl, Nat.le_of_ble_eq_true rfl⟩ rfl ?_
    refine tm_iconst X (-1 : Int32) dX5_greatestGap_21 (by decide) ?_
    refine tm_let (fun k => ∀ (x3_7 : Int32), TM G r (k x3_7) (wM ad dA h) 0 0 38 [(0, .ref (ad 300)), (1, .int x1), (2, .int x2), (3, .int x3_7), (4, .int x4_2)] []) ?_ (fun k38 hk38 => ?_)
    · intro x3_7
      refine tm_iinc (v := (1 : Int32)) X 4 [(4, .int (x4_2 + (1 : Int32))), (0, .ref (ad 300)), (1, .int x1), (2, .int x2), (3, .int x3_7)] dX5_greatestGap_38 rfl (by decide) (Nat.le_of_ble_eq_true rfl) rfl ?_
      refine tm_goto X 7 dX5_greatestGap_41 rfl ?_
      refine tm_lv X [1, 2, 3, 4, 0] rfl ?_
      exact hk7 x3_7 (x4_2 + (1 : Int32))
    · skip
      refine tm_ic_eq X 38 dX5_greatestGap_22 rfl ?_ ?_
      · skip
        exact hk38 x3_1
      · skip
        refine tm_iload_n X 3 dX5_greatestGap_25 rfl rfl ?_
        refine tm_aload_n X 0 dX5_greatestGap_26 rfl rfl ?_
        refine tm_iload X 4 dX5_greatestGap_27 rfl ?_
        refine tm_iload_n X 1 dX5_greatestGap_29 rfl rfl ?_
        refine tm_iload_n X 2 dX5_greatestGap_30 rfl rfl ?_
        refine tm_cl1 (fun r9 e8 => ?_)
        refine tm_callVi (As := [.int x4_2, .int x1, .int x2]) (rest := [.int x3_1]) (q0 := 0) X (ctX5_sumAt l D ad dA h x4_2 x1 x2 r9 e8) (lw_V q1524 q1526 qs76 q122 q1527) cyX5_sumAt rfl rfl rfl ⟨(Nat.le_of_ble_eq_true rfl), (Nat.le_of_ble_eq_true rfl)⟩ (Nat.le_of_ble_eq_true rfl) dX5_greatestGap_31 ⟨Nat.le_of_ble_eq_true rfl, Nat.le_of_ble_eq_true rfl⟩ rfl ?_
        refine tm_cl1 (fun r10 e11 => ?_)
        refine tm_callSi (As := [.int x3_1, .int r9]) (rest := []) X (ctX5_min l D dA x3_1 r9 r10 e11) (lw_S q1558 q1559 q122 q1560) cyX5_min rfl ⟨(Nat.le_of_ble_eq_true rfl), (Nat.le_of_ble_eq_true rfl)⟩ (Nat.le_of_ble_eq_true rfl) dX5_greatestGap_34 ⟨Nat.le_of_ble_eq_true rfl, Nat.le_of_ble_eq_true rfl⟩ rfl ?_
        refine tm_istore_n X [(3, .int r10), (0, .ref (ad 300)), (1, .int x1), (2, .int x2), (4, .int x4_2)] dX5_greatestGap_37 rfl (Nat.le_of_ble_eq_true rfl) rfl ?_
        refine tm_lv X [1, 2, 3, 0, 4] rfl ?_
        exact hk38 r10
def mX5_glide (h : Hp) (x1 : Int32) (x2 : Int32) (x3 : Int32) (x4 : Int32) : Option (Int32 × Hp) :=
cl1 (mX5_isGlide x1 x2) (fun r1 =>
nm (
some ((-1 : Int32), h)) (fun k15 =>
if r1 = 0 then (
k15) else (
cl1 (mX5_isSum x3) (fun r3 =>
if r3 = 0 then (
k15) else (
if x4 = (0 : Int32) then (
cl1 (mX5_opening h x1 x2) (fun r6 =>
some (r6, h))) else (
if x4 = (1 : Int32) then (
cl2 (mX5_marks h x1 x2 x3) (fun r9 h10 =>
some (r9, h10))) else (
if x4 = (2 : Int32) then (
cl2 (mX5_marks h x1 x2 x3) (fun r13 h14 =>
cl1 (mX5_firstMarked h14) (fun r16 =>
some (r16, h14)))) else (
if x4 = (3 : Int32) then (
cl1 (mX5_facing x1 x2) (fun r18 =>
some (r18, h))) else (
if x4 = (4 : Int32) then (
cl1 (mX5_greatestGap h x1 x2) (fun r22 =>
some (r22, h))) else (
some ((-1 : Int32), h)))))))))))
theorem cyX5_glide : Callee yX5_glide 4 := by unfold Callee; decide +kernel
set_option maxHeartbeats 4000000 in
theorem ctX5_glide (l : Launch) (D : va_G) (ad : Nat → Nat) (dA : Nat → ClassId) (h : Hp) (x1 : Int32) (x2 : Int32) (x3 : Int32) (x4 : Int32) (r : Int32) (h' : Hp) (hm : mX5_glide h x1 x2 x3 x4 = some (r, h')) : CT l yX5_glide cX5_glide 5 (some .int) D dA 5 120 0 0 (wM ad dA h) [.ref (ad 300), .int x1, .int x2, .int x3, .int x4] (some (.int r)) (wM ad dA h') := by
  refine ct_open (by decide) (Nat.le_of_ble_eq_true rfl) ?_
  intro G X hI hZ hV hR
  have hRet := hI rfl r rfl
  refine (show TM G (r, h') (mX5_glide h x1 x2 x3 x4) (wM ad dA h) 0 0 0 [(0, .ref (ad 300)), (1, .int x1), (2, .int x2), (3, .int x3), (4, .int x4)] [] from ?_) hm
  clear hm hI hZ hV hR
  unfold mX5_glide
  refine tm_iload_n X 1 dX5_glide_0 rfl rfl ?_
  refine tm_iload_n X 2 dX5_glide_1 rfl rfl ?_
  refine tm_cl1 (fun r1 e2 => ?_)
  refine tm_callSi (As := [.int x1, .int x2]) (rest := []) X (ctX5_isGlide l D dA x1 x2 r1 e2) (lw_S q1514 q1515 q122 q1516) cyX5_isGlide rfl ⟨(Nat.le_of_ble_eq_true rfl), (Nat.le_of_ble_eq_true rfl)⟩ (Nat.le_of_ble_eq_true rfl) dX5_glide_2 ⟨Nat.le_of_ble_eq_true rfl, Nat.le_of_ble_eq_true rfl⟩ rfl ?_
  refine tm_let (fun k => TM G (r, h') k (wM ad dA h) 0 0 15 [] []) ?_ (fun k15 hk15 => ?_)
  · skip
    refine tm_iconst X (-1 : Int32) dX5_glide_15 (by decide) ?_
    exact tm_retIH (wf := wM ad dA) hRet dX5_glide_16
  · skip
    refine tm_if_eq X 15 dX5_glide_5 rfl ?_ ?_
    · skip
      refine tm_lv X [] rfl ?_
      exact hk15
    · skip
      refine tm_iload_n X 3 dX5_glide_8 rfl rfl ?_
      refine tm_cl1 (fun r3 e4 => ?_)
      refine tm_callSi (As := [.int x3]) (rest := []) X (ctX5_isSum l D dA x3 r3 e4) (lw_S q1517 q1518 q122 q1519) cyX5_isSum rfl ⟨(Nat.le_of_ble_eq_true rfl), (Nat.le_of_ble_eq_true rfl)⟩ (Nat.le_of_ble_eq_true rfl) dX5_glide_9 ⟨Nat.le_of_ble_eq_true rfl, Nat.le_of_ble_eq_true rfl⟩ rfl ?_
      refine tm_if_ne X 17 dX5_glide_12 rfl ?_ ?_
      · skip
        refine tm_iload X 4 dX5_glide_17 rfl ?_
        refine tm_sw (j := 0) (0 : Int32) 52 X dX5_glide_19 (by decide) (by decide) rfl rfl ?_ (fun hs7 => ?_)
        · skip
          refine tm_aload_n X 0 dX5_glide_52 rfl rfl ?_
          refine tm_iload_n X 1 dX5_glide_53 rfl rfl ?_
          refine tm_iload_n X 2 dX5_glide_54 rfl rfl ?_
          refine tm_cl1 (fun r6 e5 => ?_)
          refine tm_callVi (As := [.int x1, .int x2]) (rest := []) (q0 := 0) X (ctX5_opening l D ad dA h x1 x2 r6 e5) (lw_V q1520 q1522 qs75 q122 q1523) cyX5_opening rfl rfl rfl ⟨(Nat.le_of_ble_eq_true rfl), (Nat.le_of_ble_eq_true rfl)⟩ (Nat.le_of_ble_eq_true rfl) dX5_glide_55 ⟨Nat.le_of_ble_eq_true rfl, Nat.le_of_ble_eq_true rfl⟩ rfl ?_
          exact tm_retIH (wf := wM ad dA) hRet dX5_glide_58
        refine tm_sw (j := 1) (1 : Int32) 59 X dX5_glide_19 (by decide) (by decide) rfl rfl ?_ (fun hs11 => ?_)
        · skip
          refine tm_aload_n X 0 dX5_glide_59 rfl rfl ?_
          refine tm_iload_n X 1 dX5_glide_60 rfl rfl ?_
          refine tm_iload_n X 2 dX5_glide_61 rfl rfl ?_
          refine tm_iload_n X 3 dX5_glide_62 rfl rfl ?_
          refine tm_cl2 (fun r9 h10 e8 => ?_)
          refine tm_callVi (As := [.int x1, .int x2, .int x3]) (rest := []) (q0 := 0) X (ctX5_marks l D ad dA h x1 x2 x3 r9 h10 e8) (lw_V q1542 q1544 qs79 q122 q1545) cyX5_marks rfl rfl rfl ⟨(Nat.le_of_ble_eq_true rfl), (Nat.le_of_ble_eq_true rfl)⟩ (Nat.le_of_ble_eq_true rfl) dX5_glide_63 ⟨Nat.le_of_ble_eq_true rfl, Nat.le_of_ble_eq_true rfl⟩ rfl ?_
          exact tm_retIH (wf := wM ad dA) hRet dX5_glide_66
        refine tm_sw (j := 2) (2 : Int32) 67 X dX5_glide_19 (by decide) (by decide) rfl rfl ?_ (fun hs17 => ?_)
        · skip
          refine tm_aload_n X 0 dX5_glide_67 rfl rfl ?_
          refine tm_iload_n X 1 dX5_glide_68 rfl rfl ?_
          refine tm_iload_n X 2 dX5_glide_69 rfl rfl ?_
          refine tm_iload_n X 3 dX5_glide_70 rfl rfl ?_
          refine tm_cl2 (fun r13 h14 e12 => ?_)
          refine tm_callVi (As := [.int x1, .int x2, .int x3]) (rest := []) (q0 := 0) X (ctX5_marks l D ad dA h x1 x2 x3 r13 h14 e12) (lw_V q1542 q1544 qs79 q122 q1545) cyX5_marks rfl rfl rfl ⟨(Nat.le_of_ble_eq_true rfl), (Nat.le_of_ble_eq_true rfl)⟩ (Nat.le_of_ble_eq_true rfl) dX5_glide_71 ⟨Nat.le_of_ble_eq_true rfl, Nat.le_of_ble_eq_true rfl⟩ rfl ?_
          refine tm_pop X dX5_glide_74 rfl ?_
          refine tm_aload_n X 0 dX5_glide_75 rfl rfl ?_
          refine tm_cl1 (fun r16 e15 => ?_)
          refine tm_callVi (As := []) (rest := []) (q0 := 0) X (ctX5_firstMarked l D ad dA h14 r16 e15) (lw_V q1546 q1548 qs80 q122 q1549) cyX5_firstMarked rfl rfl rfl ⟨(Nat.le_of_ble_eq_true rfl), (Nat.le_of_ble_eq_true rfl)⟩ (Nat.le_of_ble_eq_true rfl) dX5_glide_76 ⟨Nat.le_of_ble_eq_true rfl, Nat.le_of_ble_eq_true rfl⟩ rfl ?_
          exact tm_retIH (wf := wM ad dA) hRet dX5_glide_79
        refine tm_sw (j := 3) (3 : Int32) 80 X dX5_glide_19 (by decide) (by decide) rfl rfl ?_ (fun hs20 => ?_)
        · skip
          refine tm_iload_n X 1 dX5_glide_80 rfl rfl ?_
          refine tm_iload_n X 2 dX5_glide_81 rfl rfl ?_
          refine tm_cl1 (fun r18 e19 => ?_)
          refine tm_callSi (As := [.int x1, .int x2]) (rest := []) X (ctX5_facing l D dA x1 x2 r18 e19) (lw_S q1550 q1551 q122 q1552) cyX5_facing rfl ⟨(Nat.le_of_ble_eq_true rfl), (Nat.le_of_ble_eq_true rfl)⟩ (Nat.le_of_ble_eq_true rfl) dX5_glide_82 ⟨Nat.le_of_ble_eq_true rfl, Nat.le_of_ble_eq_true rfl⟩ rfl ?_
          exact tm_retIH (wf := wM ad dA) hRet dX5_glide_85
        refine tm_sw (j := 4) (4 : Int32) 86 X dX5_glide_19 (by decide) (by decide) rfl rfl ?_ (fun hs23 => ?_)
        · skip
          refine tm_aload_n X 0 dX5_glide_86 rfl rfl ?_
          refine tm_iload_n X 1 dX5_glide_87 rfl rfl ?_
          refine tm_iload_n X 2 dX5_glide_88 rfl rfl ?_
          refine tm_cl1 (fun r22 e21 => ?_)
          refine tm_callVi (As := [.int x1, .int x2]) (rest := []) (q0 := 0) X (ctX5_greatestGap l D ad dA h x1 x2 r22 e21) (lw_V q1553 q1555 qs81 q122 q1556) cyX5_greatestGap rfl rfl rfl ⟨(Nat.le_of_ble_eq_true rfl), (Nat.le_of_ble_eq_true rfl)⟩ (Nat.le_of_ble_eq_true rfl) dX5_glide_89 ⟨Nat.le_of_ble_eq_true rfl, Nat.le_of_ble_eq_true rfl⟩ rfl ?_
          exact tm_retIH (wf := wM ad dA) hRet dX5_glide_92
        refine tm_swd 93 X dX5_glide_19 (by have := ne_toInt hs7 (n := 0) (by decide); have := ne_toInt hs11 (n := 1) (by decide); have := ne_toInt hs17 (n := 2) (by decide); have := ne_toInt hs20 (n := 3) (by decide); have := ne_toInt hs23 (n := 4) (by decide); omega) rfl ?_
        refine tm_iconst X (-1 : Int32) dX5_glide_93 (by decide) ?_
        exact tm_retIH (wf := wM ad dA) hRet dX5_glide_94
      · skip
        refine tm_lv X [] rfl ?_
        exact hk15
def mX5_openingOf (h : Hp) (x1 : Int32) : Option (Int32) :=
cl1 (mX5_opening h ((jrem x1 (9 : Int32)) - (4 : Int32)) ((x1 / (9 : Int32)) - (3 : Int32))) (fun r2 =>
some r2)
theorem cyX5_openingOf : Callee yX5_openingOf 1 := by unfold Callee; decide +kernel
set_option maxHeartbeats 4000000 in
theorem ctX5_openingOf (l : Launch) (D : va_G) (ad : Nat → Nat) (dA : Nat → ClassId) (h : Hp) (x1 : Int32) (r : Int32) (hm : mX5_openingOf h x1 = some r) : CT l yX5_openingOf cX5_openingOf 2 (some .int) D dA 4 94 0 0 (wM ad dA h) [.ref (ad 300), .int x1] (some (.int r)) (wM ad dA h) := by
  refine ct_open (by decide) (Nat.le_of_ble_eq_true rfl) ?_
  intro G X hI hZ hV hR
  have hRet := hI rfl r rfl
  refine (show TM G r (mX5_openingOf h x1) (wM ad dA h) 0 0 0 [(0, .ref (ad 300)), (1, .int x1)] [] from ?_) hm
  clear hm hI hZ hV hR
  unfold mX5_openingOf
  refine tm_aload_n X 0 dX5_openingOf_0 rfl rfl ?_
  refine tm_iload_n X 1 dX5_openingOf_1 rfl rfl ?_
  refine tm_bipush X (9 : Int32) dX5_openingOf_2 (by decide) ?_
  refine tm_irem X dX5_openingOf_4 (by decide) ?_
  refine tm_iconst X (4 : Int32) dX5_openingOf_5 (by decide) ?_
  refine tm_isub X dX5_openingOf_6 ?_
  refine tm_iload_n X 1 dX5_openingOf_7 rfl rfl ?_
  refine tm_bipush X (9 : Int32) dX5_openingOf_8 (by decide) ?_
  refine tm_idiv X dX5_openingOf_10 (by decide) ?_
  refine tm_iconst X (3 : Int32) dX5_openingOf_11 (by decide) ?_
  refine tm_isub X dX5_openingOf_12 ?_
  refine tm_cl1 (fun r2 e1 => ?_)
  refine tm_callVi (As := [.int ((jrem x1 (9 : Int32)) - (4 : Int32)), .int ((x1 / (9 : Int32)) - (3 : Int32))]) (rest := []) (q0 := 0) X (ctX5_opening l D ad dA h ((jrem x1 (9 : Int32)) - (4 : Int32)) ((x1 / (9 : Int32)) - (3 : Int32)) r2 e1) (lw_V q1520 q1522 qs75 q122 q1523) cyX5_opening rfl rfl rfl ⟨(Nat.le_of_ble_eq_true rfl), (Nat.le_of_ble_eq_true rfl)⟩ (Nat.le_of_ble_eq_true rfl) dX5_openingOf_13 ⟨Nat.le_of_ble_eq_true rfl, Nat.le_of_ble_eq_true rfl⟩ rfl ?_
  exact tm_retI hRet dX5_openingOf_16
def mX5_best (h : Hp) (x1 : Int32) : Option (Int32 × Hp) :=
cl1 (mX5_in x1 (0 : Int32) (3 : Int32)) (fun r1 =>
if r1 = 0 then (
some ((-1 : Int32), h)) else (
fx FU (fun _ _ _ _ _ _ => none) (fun k26 (x2_3 : Int32) (x3_4 : Int32) (x4_5 : Int32) (x5_6 : Int32) (x6_7 : Int32) (h8 : Hp) =>
if (63 : Int32) ≤ x6_7 then (
nm (fun (s9 : Int32) =>
some (s9, h8)) (fun k135 =>
if x1 = 0 then (
k135 x2_3) else (
if x1 = (1 : Int32) then (
k135 x3_4) else (
if x1 = (2 : Int32) then (
k135 x4_5) else (
k135 x5_6))))) else (
cl1 (mX5_openingOf h8 x6_7) (fun r11 =>
cl2 (mX5_marks h8 ((jrem x6_7 (9 : Int32)) - (4 : Int32)) ((x6_7 / (9 : Int32)) - (3 : Int32)) (0 : Int32)) (fun r13 h14 =>
nm (fun (x2_15 : Int32) =>
nm (fun (x3_16 : Int32) =>
cl1 (mX5_min x4_5 r11) (fun r17 =>
cl1 (mX5_max x5_6 r13) (fun r19 =>
k26 x2_15 x3_16 r17 r19 (x6_7 + (1 : Int32)) h14))) (fun k82 =>
if r13 ≤ x5_6 then (
k82 x3_4) else (
k82 x6_7))) (fun k72 =>
if x4_5 ≤ r11 then (
k72 x2_3) else (
k72 x6_7)))))) (0 : Int32) (0 : Int32) (1000000 : Int32) (0 : Int32) (0 : Int32) h))
theorem cyX5_best : Callee yX5_best 1 := by unfold Callee; decide +kernel
set_option maxHeartbeats 4000000 in
theorem ctX5_best (l : Launch) (D : va_G) (ad : Nat → Nat) (dA : Nat → ClassId) (h : Hp) (x1 : Int32) (r : Int32) (h' : Hp) (hm : mX5_best h x1 = some (r, h')) : CT l yX5_best cX5_best 9 (some .int) D dA 5 120 0 0 (wM ad dA h) [.ref (ad 300), .int x1] (some (.int r)) (wM ad dA h') := by
  refine ct_open (by decide) (Nat.le_of_ble_eq_true rfl) ?_
  intro G X hI hZ hV hR
  have hRet := hI rfl r rfl
  refine (show TM G (r, h') (mX5_best h x1) (wM ad dA h) 0 0 0 [(0, .ref (ad 300)), (1, .int x1)] [] from ?_) hm
  clear hm hI hZ hV hR
  unfold mX5_best
  refine tm_iload_n X 1 dX5_best_0 rfl rfl ?_
  refine tm_iconst X (0 : Int32) dX5_best_1 (by decide) ?_
  refine tm_iconst X (3 : Int32) dX5_best_2 (by decide) ?_
  refine tm_cl1 (fun r1 e2 => ?_)
  refine tm_callSi (As := [.int x1, .int (0 : Int32), .int (3 : Int32)]) (rest := []) X (ctX5_in l D dA x1 (0 : Int32) (3 : Int32) r1 e2) (lw_S q1366 q1367 q122 q1368) cyX5_in rfl ⟨(Nat.le_of_ble_eq_true rfl), (Nat.le_of_ble_eq_true rfl)⟩ (Nat.le_of_ble_eq_true rfl) dX5_best_3 ⟨Nat.le_of_ble_eq_true rfl, Nat.le_of_ble_eq_true rfl⟩ rfl ?_
  refine tm_if_ne X 11 dX5_best_6 rfl ?_ ?_
  · skip
    refine tm_iconst X (0 : Int32) dX5_best_11 (by decide) ?_
    refine tm_istore_n X [(2, .int (0 : Int32)), (0, .ref (ad 300)), (1, .int x1)] dX5_best_12 rfl (Nat.le_of_ble_eq_true rfl) rfl ?_
    refine tm_iconst X (0 : Int32) dX5_best_13 (by decide) ?_
    refine tm_istore_n X [(3, .int (0 : Int32)), (2, .int (0 : Int32)), (0, .ref (ad 300)), (1, .int x1)] dX5_best_14 rfl (Nat.le_of_ble_eq_true rfl) rfl ?_
    refine tm_ldcw X (1000000 : Int32) q1557 dX5_best_15 ?_
    refine tm_istore X [(4, .int (1000000 : Int32)), (3, .int (0 : Int32)), (2, .int (0 : Int32)), (0, .ref (ad 300)), (1, .int x1)] dX5_best_18 (Nat.le_of_ble_eq_true rfl) rfl ?_
    refine tm_iconst X (0 : Int32) dX5_best_20 (by decide) ?_
    refine tm_istore X [(5, .int (0 : Int32)), (4, .int (1000000 : Int32)), (3, .int (0 : Int32)), (2, .int (0 : Int32)), (0, .ref (ad 300)), (1, .int x1)] dX5_best_21 (Nat.le_of_ble_eq_true rfl) rfl ?_
    refine tm_iconst X (0 : Int32) dX5_best_23 (by decide) ?_
    refine tm_istore X [(6, .int (0 : Int32)), (5, .int (0 : Int32)), (4, .int (1000000 : Int32)), (3, .int (0 : Int32)), (2, .int (0 : Int32)), (0, .ref (ad 300)), (1, .int x1)] dX5_best_24 (Nat.le_of_ble_eq_true rfl) rfl ?_
    refine tm_lv X [5, 6, 4, 3, 2, 1, 0] rfl ?_
    refine fx_P (fun (k : Int32 → Int32 → Int32 → Int32 → Int32 → Hp → Option (Int32 × Hp)) => ∀ (x2_3 : Int32) (x3_4 : Int32) (x4_5 : Int32) (x5_6 : Int32) (x6_7 : Int32) (h8 : Hp), TM G (r, h') (k x2_3 x3_4 x4_5 x5_6 x6_7 h8) (wM ad dA h8) 0 0 26 [(0, .ref (ad 300)), (1, .int x1), (2, .int x2_3), (3, .int x3_4), (4, .int x4_5), (5, .int x5_6), (6, .int x6_7)] []) (fun _ _ _ _ _ _ => tm_none) (fun k26 hk26 x2_3 x3_4 x4_5 x5_6 x6_7 h8 => ?_) FU (0 : Int32) (0 : Int32) (1000000 : Int32) (0 : Int32) (0 : Int32) h
    refine tm_iload X 6 dX5_best_26 rfl ?_
    refine tm_bipush X (63 : Int32) dX5_best_28 (by decide) ?_
    refine tm_ic_ge X 106 dX5_best_30 rfl ?_ ?_
    · skip
      refine tm_iload_n X 1 dX5_best_106 rfl rfl ?_
      refine tm_let (fun k => ∀ (s9 : Int32), TM G (r, h') (k s9) (wM ad dA h8) 0 0 135 [] [.int s9]) ?_ (fun k135 hk135 => ?_)
      · intro s9
        exact tm_retIH (wf := wM ad dA) hRet dX5_best_135
      · skip
        refine tm_if_ne X 114 dX5_best_107 rfl ?_ ?_
        · skip
          refine tm_iload_n X 1 dX5_best_114 rfl rfl ?_
          refine tm_iconst X (1 : Int32) dX5_best_115 (by decide) ?_
          refine tm_ic_ne X 123 dX5_best_116 rfl ?_ ?_
          · skip
            refine tm_iload_n X 1 dX5_best_123 rfl rfl ?_
            refine tm_iconst X (2 : Int32) dX5_best_124 (by decide) ?_
            refine tm_ic_ne X 133 dX5_best_125 rfl ?_ ?_
            · skip
              refine tm_iload X 5 dX5_best_133 rfl ?_
              refine tm_lv X [] rfl ?_
              exact hk135 x5_6
            · skip
              refine tm_iload X 4 dX5_best_128 rfl ?_
              refine tm_goto X 135 dX5_best_130 rfl ?_
              refine tm_lv X [] rfl ?_
              exact hk135 x4_5
          · skip
            refine tm_iload_n X 3 dX5_best_119 rfl rfl ?_
            refine tm_goto X 135 dX5_best_120 rfl ?_
            refine tm_lv X [] rfl ?_
            exact hk135 x3_4
        · skip
          refine tm_iload_n X 2 dX5_best_110 rfl rfl ?_
          refine tm_goto X 135 dX5_best_111 rfl ?_
          refine tm_lv X [] rfl ?_
          exact hk135 x2_3
    · skip
      refine tm_aload_n X 0 dX5_best_33 rfl rfl ?_
      refine tm_iload X 6 dX5_best_34 rfl ?_
      refine tm_cl1 (fun r11 e10 => ?_)
      refine tm_callVi (As := [.int x6_7]) (rest := []) (q0 := 0) X (ctX5_openingOf l D ad dA h8 x6_7 r11 e10) (lw_V q1565 q1567 qs82 q122 q1568) cyX5_openingOf rfl rfl rfl ⟨(Nat.le_of_ble_eq_true rfl), (Nat.le_of_ble_eq_true rfl)⟩ (Nat.le_of_ble_eq_true rfl) dX5_best_36 ⟨Nat.le_of_ble_eq_true rfl, Nat.le_of_ble_eq_true rfl⟩ rfl ?_
      refine tm_istore X [(7, .int r11), (0, .ref (ad 300)), (1, .int x1), (2, .int x2_3), (3, .int x3_4), (4, .int x4_5), (5, .int x5_6), (6, .int x6_7)] dX5_best_39 (Nat.le_of_ble_eq_true rfl) rfl ?_
      refine tm_aload_n X 1 dX5_best_41 rfl rfl ?_
      refine tm_iload X 7 dX5_best_42 rfl ?_
      refine tm_bipush X (9 : Int32) dX5_best_44 (by decide) ?_
      refine tm_irem X dX5_best_46 (by decide) ?_
      refine tm_iconst X (4 : Int32) dX5_best_47 (by decide) ?_
      refine tm_isub X dX5_best_48 ?_
      refine tm_iload X 7 dX5_best_49 rfl ?_
      refine tm_bipush X (9 : Int32) dX5_best_51 (by decide) ?_
      refine tm_idiv X dX5_best_53 (by decide) ?_
      refine tm_iconst X (3 : Int32) dX5_best_54 (by decide) ?_
      refine tm_isub X dX5_best_55 ?_
      refine tm_iconst X (0 : Int32) dX5_best_56 (by decide) ?_
      refine tm_cl2 (fun r13 h14 e12 => ?_)
      refine tm_callVi (As := [.int ((jrem x6_7 (9 : Int32)) - (4 : Int32)), .int ((x6_7 / (9 : Int32)) - (3 : Int32)), .int (0 : Int32)]) (rest := []) (q0 := 0) X (ctX5_marks l D ad dA h8 ((jrem x6_7 (9 : Int32)) - (4 : Int32)) ((x6_7 / (9 : Int32)) - (3 : Int32)) (0 : Int32) r13 h14 e12) (lw_V q1542 q1544 qs79 q122 q1545) cyX5_marks rfl rfl rfl ⟨(Nat.le_of_ble_eq_true rfl), (Nat.le_of_ble_eq_true rfl)⟩ (Nat.le_of_ble_eq_true rfl) dX5_best_57 ⟨Nat.le_of_ble_eq_true rfl, Nat.le_of_ble_eq_true rfl⟩ rfl ?_
      refine tm_istore X [(8, .int r13), (7, .int r11), (0, .ref (ad 300)), (1, .int x1), (2, .int x2_3), (3, .int x3_4), (4, .int x4_5), (5, .int x5_6), (6, .int x6_7)] dX5_best_60 (Nat.le_of_ble_eq_true rfl) rfl ?_
      refine tm_iload X 1 dX5_best_62 rfl ?_
      refine tm_iload X 6 dX5_best_64 rfl ?_
      refine tm_let (fun k => ∀ (x2_15 : Int32), TM G (r, h') (k x2_15) (wM ad dA h14) 0 0 72 [(0, .ref (ad 300)), (1, .int x1), (2, .int x2_15), (3, .int x3_4), (4, .int x4_5), (5, .int x5_6), (6, .int x6_7), (7, .int r11), (8, .int r13)] []) ?_ (fun k72 hk72 => ?_)
      · intro x2_15
        refine tm_iload X 8 dX5_best_72 rfl ?_
        refine tm_iload X 5 dX5_best_74 rfl ?_
        refine tm_let (fun k => ∀ (x3_16 : Int32), TM G (r, h') (k x3_16) (wM ad dA h14) 0 0 82 [(0, .ref (ad 300)), (1, .int x1), (2, .int x2_15), (3, .int x3_16), (4, .int x4_5), (5, .int x5_6), (6, .int x6_7), (7, .int r11), (8, .int r13)] []) ?_ (fun k82 hk82 => ?_)
        · intro x3_16
          refine tm_iload X 4 dX5_best_82 rfl ?_
          refine tm_iload X 7 dX5_best_84 rfl ?_
          refine tm_cl1 (fun r17 e18 => ?_)
          refine tm_callSi (As := [.int x4_5, .int r11]) (rest := []) X (ctX5_min l D dA x4_5 r11 r17 e18) (lw_S q1558 q1559 q122 q1560) cyX5_min rfl ⟨(Nat.le_of_ble_eq_true rfl), (Nat.le_of_ble_eq_true rfl)⟩ (Nat.le_of_ble_eq_true rfl) dX5_best_86 ⟨Nat.le_of_ble_eq_true rfl, Nat.le_of_ble_eq_true rfl⟩ rfl ?_
          refine tm_istore X [(4, .int r17), (0, .ref (ad 300)), (1, .int x1), (2, .int x2_15), (3, .int x3_16), (5, .int x5_6), (6, .int x6_7), (7, .int r11), (8, .int r13)] dX5_best_89 (Nat.le_of_ble_eq_true rfl) rfl ?_
          refine tm_iload X 5 dX5_best_91 rfl ?_
          refine tm_iload X 8 dX5_best_93 rfl ?_
          refine tm_cl1 (fun r19 e20 => ?_)
          refine tm_callSi (As := [.int x5_6, .int r13]) (rest := []) X (ctX5_max l D dA x5_6 r13 r19 e20) (lw_S q1539 q1540 q122 q1541) cyX5_max rfl ⟨(Nat.le_of_ble_eq_true rfl), (Nat.le_of_ble_eq_true rfl)⟩ (Nat.le_of_ble_eq_true rfl) dX5_best_95 ⟨Nat.le_of_ble_eq_true rfl, Nat.le_of_ble_eq_true rfl⟩ rfl ?_
          refine tm_istore X [(5, .int r19), (4, .int r17), (0, .ref (ad 300)), (1, .int x1), (2, .int x2_15), (3, .int x3_16), (6, .int x6_7), (7, .int r11), (8, .int r13)] dX5_best_98 (Nat.le_of_ble_eq_true rfl) rfl ?_
          refine tm_iinc (v := (1 : Int32)) X 6 [(6, .int (x6_7 + (1 : Int32))), (5, .int r19), (4, .int r17), (0, .ref (ad 300)), (1, .int x1), (2, .int x2_15), (3, .int x3_16), (7, .int r11), (8, .int r13)] dX5_best_100 rfl (by decide) (Nat.le_of_ble_eq_true rfl) rfl ?_
          refine tm_goto X 26 dX5_best_103 rfl ?_
          refine tm_lv X [3, 4, 5, 6, 2, 1, 0] rfl ?_
          exact hk26 x2_15 x3_16 r17 r19 (x6_7 + (1 : Int32)) h14
        · skip
          refine tm_ic_le X 82 dX5_best_76 rfl ?_ ?_
          · skip
            exact hk82 x3_4
          · skip
            refine tm_iload X 6 dX5_best_79 rfl ?_
            refine tm_istore_n X [(3, .int x6_7), (0, .ref (ad 300)), (1, .int x1), (2, .int x2_15), (4, .int x4_5), (5, .int x5_6), (6, .int x6_7), (7, .int r11), (8, .int r13)] dX5_best_81 rfl (Nat.le_of_ble_eq_true rfl) rfl ?_
            refine tm_lv X [1, 2, 3, 0, 4, 5, 6, 7, 8] rfl ?_
            exact hk82 x6_7
      · skip
        refine tm_ic_ge X 72 dX5_best_66 rfl ?_ ?_
        · skip
          refine tm_lv X [2, 3, 4, 5, 6, 7, 8, 1, 0] rfl ?_
          exact hk72 x2_3
        · skip
          refine tm_iload X 8 dX5_best_69 rfl ?_
          refine tm_istore_n X [(2, .int x6_7), (8, .int r13), (7, .int r11), (0, .ref (ad 300)), (1, .int x1), (3, .int x3_4), (4, .int x4_5), (5, .int x5_6), (6, .int x6_7)] dX5_best_71 rfl (Nat.le_of_ble_eq_true rfl) rfl ?_
          refine tm_lv X [3, 4, 0, 5, 6, 7, 8, 2, 1] rfl ?_
          exact hk72 x6_7
  · skip
    refine tm_iconst X (-1 : Int32) dX5_best_9 (by decide) ?_
    exact tm_retIH (wf := wM ad dA) hRet dX5_best_10
def mX5_gapsOf (h : Hp) (x1 : Int32) : Option (Int32) :=
nm (((jrem x1 (9 : Int32)) - (4 : Int32))) (fun v1 =>
nm (((x1 / (9 : Int32)) - (3 : Int32))) (fun v2 =>
cl1 (mX5_facing v1 v2) (fun r3 =>
cl1 (mX5_opening h v1 v2) (fun r6 =>
nm ((r3 * r6)) (fun v7 =>
fx FU (fun _ _ => none) (fun k31 (x4_8 : Int32) (x5_9 : Int32) =>
if (48 : Int32) ≤ x5_9 then (
some x4_8) else (
cl1 (mX5_against x5_9 v1 v2) (fun r10 =>
nm (fun (x4_12 : Int32) =>
k31 x4_12 (x5_9 + (1 : Int32))) (fun k62 =>
if r10 = (-1 : Int32) then (
k62 x4_8) else (
cl1 (mX5_sumAt h x5_9 v1 v2) (fun r14 =>
nm ((x4_8 - r14)) (fun v15 =>
k62 v15))))))) v7 (0 : Int32))))))
theorem cyX5_gapsOf : Callee yX5_gapsOf 1 := by unfold Callee; decide +kernel
set_option maxHeartbeats 4000000 in
theorem ctX5_gapsOf (l : Launch) (D : va_G) (ad : Nat → Nat) (dA : Nat → ClassId) (h : Hp) (x1 : Int32) (r : Int32) (hm : mX5_gapsOf h x1 = some r) : CT l yX5_gapsOf cX5_gapsOf 6 (some .int) D dA 4 94 0 0 (wM ad dA h) [.ref (ad 300), .int x1] (some (.int r)) (wM ad dA h) := by
  refine ct_open (by decide) (Nat.le_of_ble_eq_true rfl) ?_
  intro G X hI hZ hV hR
  have hRet := hI rfl r rfl
  refine (show TM G r (mX5_gapsOf h x1) (wM ad dA h) 0 0 0 [(0, .ref (ad 300)), (1, .int x1)] [] from ?_) hm
  clear hm hI hZ hV hR
  unfold mX5_gapsOf
  refine tm_iload_n X 1 dX5_gapsOf_0 rfl rfl ?_
  refine tm_bipush X (9 : Int32) dX5_gapsOf_1 (by decide) ?_
  refine tm_irem X dX5_gapsOf_3 (by decide) ?_
  refine tm_iconst X (4 : Int32) dX5_gapsOf_4 (by decide) ?_
  refine tm_isub X dX5_gapsOf_5 ?_
  refine tm_nmI (fun v1 => ?_)
  refine tm_istore_n X [(2, .int v1), (0, .ref (ad 300)), (1, .int x1)] dX5_gapsOf_6 rfl (Nat.le_of_ble_eq_true rfl) rfl ?_
  refine tm_iload_n X 2 dX5_gapsOf_7 rfl rfl ?_
  refine tm_bipush X (9 : Int32) dX5_gapsOf_8 (by decide) ?_
  refine tm_idiv X dX5_gapsOf_10 (by decide) ?_
  refine tm_iconst X (3 : Int32) dX5_gapsOf_11 (by decide) ?_
  refine tm_isub X dX5_gapsOf_12 ?_
  refine tm_nmI (fun v2 => ?_)
  refine tm_istore_n X [(3, .int v2), (2, .int v1), (0, .ref (ad 300)), (1, .int x1)] dX5_gapsOf_13 rfl (Nat.le_of_ble_eq_true rfl) rfl ?_
  refine tm_iload_n X 1 dX5_gapsOf_14 rfl rfl ?_
  refine tm_iload_n X 0 dX5_gapsOf_15 rfl rfl ?_
  refine tm_cl1 (fun r3 e4 => ?_)
  refine tm_callSi (As := [.int v1, .int v2]) (rest := []) X (ctX5_facing l D dA v1 v2 r3 e4) (lw_S q1550 q1551 q122 q1552) cyX5_facing rfl ⟨(Nat.le_of_ble_eq_true rfl), (Nat.le_of_ble_eq_true rfl)⟩ (Nat.le_of_ble_eq_true rfl) dX5_gapsOf_16 ⟨Nat.le_of_ble_eq_true rfl, Nat.le_of_ble_eq_true rfl⟩ rfl ?_
  refine tm_aload_n X 2 dX5_gapsOf_19 rfl rfl ?_
  refine tm_iload_n X 1 dX5_gapsOf_20 rfl rfl ?_
  refine tm_iload_n X 0 dX5_gapsOf_21 rfl rfl ?_
  refine tm_cl1 (fun r6 e5 => ?_)
  refine tm_callVi (As := [.int v1, .int v2]) (rest := [.int r3]) (q0 := 0) X (ctX5_opening l D ad dA h v1 v2 r6 e5) (lw_V q1520 q1522 qs75 q122 q1523) cyX5_opening rfl rfl rfl ⟨(Nat.le_of_ble_eq_true rfl), (Nat.le_of_ble_eq_true rfl)⟩ (Nat.le_of_ble_eq_true rfl) dX5_gapsOf_22 ⟨Nat.le_of_ble_eq_true rfl, Nat.le_of_ble_eq_true rfl⟩ rfl ?_
  refine tm_imul X dX5_gapsOf_25 ?_
  refine tm_nmI (fun v7 => ?_)
  refine tm_istore X [(4, .int v7), (3, .int v2), (2, .int v1), (0, .ref (ad 300)), (1, .int x1)] dX5_gapsOf_26 (Nat.le_of_ble_eq_true rfl) rfl ?_
  refine tm_iconst X (0 : Int32) dX5_gapsOf_28 (by decide) ?_
  refine tm_istore X [(5, .int (0 : Int32)), (4, .int v7), (3, .int v2), (2, .int v1), (0, .ref (ad 300)), (1, .int x1)] dX5_gapsOf_29 (Nat.le_of_ble_eq_true rfl) rfl ?_
  refine tm_lv X [4, 3, 2, 1, 0] rfl ?_
  refine fx_P (fun (k : Int32 → Int32 → Option (Int32)) => ∀ (x4_8 : Int32) (x5_9 : Int32), TM G r (k x4_8 x5_9) (wM ad dA h) 0 0 31 [(0, .ref (ad 300)), (2, .int v1), (3, .int v2), (4, .int x4_8), (5, .int x5_9)] []) (fun _ _ => tm_none) (fun k31 hk31 x4_8 x5_9 => ?_) FU v7 (0 : Int32)
  refine tm_iload X 4 dX5_gapsOf_31 rfl ?_
  refine tm_bipush X (48 : Int32) dX5_gapsOf_33 (by decide) ?_
  refine tm_ic_ge X 68 dX5_gapsOf_35 rfl ?_ ?_
  · skip
    refine tm_iload X 3 dX5_gapsOf_68 rfl ?_
    exact tm_retI hRet dX5_gapsOf_70
  · skip
    refine tm_iload X 4 dX5_gapsOf_38 rfl ?_
    refine tm_iload_n X 1 dX5_gapsOf_40 rfl rfl ?_
    refine tm_iload_n X 2 dX5_gapsOf_41 rfl rfl ?_
    refine tm_cl1 (fun r10 e11 => ?_)
    refine tm_callSi (As := [.int x5_9, .int v1, .int v2]) (rest := []) X (ctX5_against l D dA x5_9 v1 v2 r10 e11) (lw_S q1528 q1529 q122 q1530) cyX5_against rfl ⟨(Nat.le_of_ble_eq_true rfl), (Nat.le_of_ble_eq_true rfl)⟩ (Nat.le_of_ble_eq_true rfl) dX5_gapsOf_42 ⟨Nat.le_of_ble_eq_true rfl, Nat.le_of_ble_eq_true rfl⟩ rfl ?_
    refine tm_iconst X (-1 : Int32) dX5_gapsOf_45 (by decide) ?_
    refine tm_let (fun k => ∀ (x4_12 : Int32), TM G r (k x4_12) (wM ad dA h) 0 0 62 [(0, .ref (ad 300)), (2, .int v1), (3, .int v2), (4, .int x4_12), (5, .int x5_9)] []) ?_ (fun k62 hk62 => ?_)
    · intro x4_12
      refine tm_iinc (v := (1 : Int32)) X 4 [(5, .int (x5_9 + (1 : Int32))), (0, .ref (ad 300)), (2, .int v1), (3, .int v2), (4, .int x4_12)] dX5_gapsOf_62 rfl (by decide) (Nat.le_of_ble_eq_true rfl) rfl ?_
      refine tm_goto X 31 dX5_gapsOf_65 rfl ?_
      refine tm_lv X [1, 2, 3, 4, 0] rfl ?_
      exact hk31 x4_12 (x5_9 + (1 : Int32))
    · skip
      refine tm_ic_eq X 62 dX5_gapsOf_46 rfl ?_ ?_
      · skip
        exact hk62 x4_8
      · skip
        refine tm_iload X 3 dX5_gapsOf_49 rfl ?_
        refine tm_aload_n X 0 dX5_gapsOf_51 rfl rfl ?_
        refine tm_iload X 4 dX5_gapsOf_52 rfl ?_
        refine tm_iload_n X 1 dX5_gapsOf_54 rfl rfl ?_
        refine tm_iload_n X 2 dX5_gapsOf_55 rfl rfl ?_
        refine tm_cl1 (fun r14 e13 => ?_)
        refine tm_callVi (As := [.int x5_9, .int v1, .int v2]) (rest := [.int x4_8]) (q0 := 0) X (ctX5_sumAt l D ad dA h x5_9 v1 v2 r14 e13) (lw_V q1524 q1526 qs76 q122 q1527) cyX5_sumAt rfl rfl rfl ⟨(Nat.le_of_ble_eq_true rfl), (Nat.le_of_ble_eq_true rfl)⟩ (Nat.le_of_ble_eq_true rfl) dX5_gapsOf_56 ⟨Nat.le_of_ble_eq_true rfl, Nat.le_of_ble_eq_true rfl⟩ rfl ?_
        refine tm_isub X dX5_gapsOf_59 ?_
        refine tm_nmI (fun v15 => ?_)
        refine tm_istore X [(4, .int v15), (0, .ref (ad 300)), (2, .int v1), (3, .int v2), (5, .int x5_9)] dX5_gapsOf_60 (Nat.le_of_ble_eq_true rfl) rfl ?_
        refine tm_lv X [1, 2, 3, 0, 4] rfl ?_
        exact hk62 v15
def mX5_evenest (h : Hp) (x1 : Int32) : Option (Int32) :=
cl1 (mX5_in x1 (0 : Int32) (1 : Int32)) (fun r1 =>
if r1 = 0 then (
some (-1 : Int32)) else (
cl1 (mX5_gapsOf h (0 : Int32)) (fun r4 =>
fx FU (fun _ _ _ => none) (fun k22 (x2_5 : Int32) (x3_6 : Int32) (x4_7 : Int32) =>
if (63 : Int32) ≤ x4_7 then (
nm (fun (s8 : Int32) =>
some s8) (fun k98 =>
if x1 = 0 then (
k98 x2_5) else (
k98 x3_6))) else (
cl1 (mX5_gapsOf h x4_7) (fun r10 =>
cl1 (mX5_facing ((jrem x2_5 (9 : Int32)) - (4 : Int32)) ((x2_5 / (9 : Int32)) - (3 : Int32))) (fun r11 =>
cl1 (mX5_facing ((jrem x4_7 (9 : Int32)) - (4 : Int32)) ((x4_7 / (9 : Int32)) - (3 : Int32))) (fun r13 =>
nm (fun (x2_15 : Int32) (x3_16 : Int32) =>
k22 x2_15 x3_16 (x4_7 + (1 : Int32))) (fun k83 =>
if (x3_6 * r13) ≤ (r10 * r11) then (
k83 x2_5 x3_6) else (
k83 x4_7 r10))))))) (0 : Int32) r4 (1 : Int32))))
theorem cyX5_evenest : Callee yX5_evenest 1 := by unfold Callee; decide +kernel
set_option maxHeartbeats 4000000 in
theorem ctX5_evenest (l : Launch) (D : va_G) (ad : Nat → Nat) (dA : Nat → ClassId) (h : Hp) (x1 : Int32) (r : Int32) (hm : mX5_evenest h x1 = some r) : CT l yX5_evenest cX5_evenest 6 (some .int) D dA 5 119 0 0 (wM ad dA h) [.ref (ad 300), .int x1] (some (.int r)) (wM ad dA h) := by
  refine ct_open (by decide) (Nat.le_of_ble_eq_true rfl) ?_
  intro G X hI hZ hV hR
  have hRet := hI rfl r rfl
  refine (show TM G r (mX5_evenest h x1) (wM ad dA h) 0 0 0 [(0, .ref (ad 300)), (1, .int x1)] [] from ?_) hm
  clear hm hI hZ hV hR
  unfold mX5_evenest
  refine tm_iload_n X 1 dX5_evenest_0 rfl rfl ?_
  refine tm_iconst X (0 : Int32) dX5_evenest_1 (by decide) ?_
  refine tm_iconst X (1 : Int32) dX5_evenest_2 (by decide) ?_
  refine tm_cl1 (fun r1 e2 => ?_)
  refine tm_callSi (As := [.int x1, .int (0 : Int32), .int (1 : Int32)]) (rest := []) X (ctX5_in l D dA x1 (0 : Int32) (1 : Int32) r1 e2) (lw_S q1366 q1367 q122 q1368) cyX5_in rfl ⟨(Nat.le_of_ble_eq_true rfl), (Nat.le_of_ble_eq_true rfl)⟩ (Nat.le_of_ble_eq_true rfl) dX5_evenest_3 ⟨Nat.le_of_ble_eq_true rfl, Nat.le_of_ble_eq_true rfl⟩ rfl ?_
  refine tm_if_ne X 11 dX5_evenest_6 rfl ?_ ?_
  · skip
    refine tm_iconst X (0 : Int32) dX5_evenest_11 (by decide) ?_
    refine tm_istore_n X [(2, .int (0 : Int32)), (0, .ref (ad 300)), (1, .int x1)] dX5_evenest_12 rfl (Nat.le_of_ble_eq_true rfl) rfl ?_
    refine tm_aload_n X 1 dX5_evenest_13 rfl rfl ?_
    refine tm_iconst X (0 : Int32) dX5_evenest_14 (by decide) ?_
    refine tm_cl1 (fun r4 e3 => ?_)
    refine tm_callVi (As := [.int (0 : Int32)]) (rest := []) (q0 := 0) X (ctX5_gapsOf l D ad dA h (0 : Int32) r4 e3) (lw_V q1573 q1575 qs83 q122 q1576) cyX5_gapsOf rfl rfl rfl ⟨(Nat.le_of_ble_eq_true rfl), (Nat.le_of_ble_eq_true rfl)⟩ (Nat.le_of_ble_eq_true rfl) dX5_evenest_15 ⟨Nat.le_of_ble_eq_true rfl, Nat.le_of_ble_eq_true rfl⟩ rfl ?_
    refine tm_istore_n X [(3, .int r4), (2, .int (0 : Int32)), (0, .ref (ad 300)), (1, .int x1)] dX5_evenest_18 rfl (Nat.le_of_ble_eq_true rfl) rfl ?_
    refine tm_iconst X (1 : Int32) dX5_evenest_19 (by decide) ?_
    refine tm_istore X [(4, .int (1 : Int32)), (3, .int r4), (2, .int (0 : Int32)), (0, .ref (ad 300)), (1, .int x1)] dX5_evenest_20 (Nat.le_of_ble_eq_true rfl) rfl ?_
    refine tm_lv X [3, 4, 2, 1, 0] rfl ?_
    refine fx_P (fun (k : Int32 → Int32 → Int32 → Option (Int32)) => ∀ (x2_5 : Int32) (x3_6 : Int32) (x4_7 : Int32), TM G r (k x2_5 x3_6 x4_7) (wM ad dA h) 0 0 22 [(0, .ref (ad 300)), (1, .int x1), (2, .int x2_5), (3, .int x3_6), (4, .int x4_7)] []) (fun _ _ _ => tm_none) (fun k22 hk22 x2_5 x3_6 x4_7 => ?_) FU (0 : Int32) r4 (1 : Int32)
    refine tm_iload X 4 dX5_evenest_22 rfl ?_
    refine tm_bipush X (63 : Int32) dX5_evenest_24 (by decide) ?_
    refine tm_ic_ge X 89 dX5_evenest_26 rfl ?_ ?_
    · skip
      refine tm_iload_n X 1 dX5_evenest_89 rfl rfl ?_
      refine tm_let (fun k => ∀ (s8 : Int32), TM G r (k s8) (wM ad dA h) 0 0 98 [] [.int s8]) ?_ (fun k98 hk98 => ?_)
      · intro s8
        exact tm_retI hRet dX5_evenest_98
      · skip
        refine tm_if_ne X 97 dX5_evenest_90 rfl ?_ ?_
        · skip
          refine tm_iload_n X 3 dX5_evenest_97 rfl rfl ?_
          refine tm_lv X [] rfl ?_
          exact hk98 x3_6
        · skip
          refine tm_iload_n X 2 dX5_evenest_93 rfl rfl ?_
          refine tm_goto X 98 dX5_evenest_94 rfl ?_
          refine tm_lv X [] rfl ?_
          exact hk98 x2_5
    · skip
      refine tm_aload_n X 0 dX5_evenest_29 rfl rfl ?_
      refine tm_iload X 4 dX5_evenest_30 rfl ?_
      refine tm_cl1 (fun r10 e9 => ?_)
      refine tm_callVi (As := [.int x4_7]) (rest := []) (q0 := 0) X (ctX5_gapsOf l D ad dA h x4_7 r10 e9) (lw_V q1573 q1575 qs83 q122 q1576) cyX5_gapsOf rfl rfl rfl ⟨(Nat.le_of_ble_eq_true rfl), (Nat.le_of_ble_eq_true rfl)⟩ (Nat.le_of_ble_eq_true rfl) dX5_evenest_32 ⟨Nat.le_of_ble_eq_true rfl, Nat.le_of_ble_eq_true rfl⟩ rfl ?_
      refine tm_istore X [(5, .int r10), (0, .ref (ad 300)), (1, .int x1), (2, .int x2_5), (3, .int x3_6), (4, .int x4_7)] dX5_evenest_35 (Nat.le_of_ble_eq_true rfl) rfl ?_
      refine tm_iload X 0 dX5_evenest_37 rfl ?_
      refine tm_iload_n X 3 dX5_evenest_39 rfl rfl ?_
      refine tm_bipush X (9 : Int32) dX5_evenest_40 (by decide) ?_
      refine tm_irem X dX5_evenest_42 (by decide) ?_
      refine tm_iconst X (4 : Int32) dX5_evenest_43 (by decide) ?_
      refine tm_isub X dX5_evenest_44 ?_
      refine tm_iload_n X 3 dX5_evenest_45 rfl rfl ?_
      refine tm_bipush X (9 : Int32) dX5_evenest_46 (by decide) ?_
      refine tm_idiv X dX5_evenest_48 (by decide) ?_
      refine tm_iconst X (3 : Int32) dX5_evenest_49 (by decide) ?_
      refine tm_isub X dX5_evenest_50 ?_
      refine tm_cl1 (fun r11 e12 => ?_)
      refine tm_callSi (As := [.int ((jrem x2_5 (9 : Int32)) - (4 : Int32)), .int ((x2_5 / (9 : Int32)) - (3 : Int32))]) (rest := [.int r10]) X (ctX5_facing l D dA ((jrem x2_5 (9 : Int32)) - (4 : Int32)) ((x2_5 / (9 : Int32)) - (3 : Int32)) r11 e12) (lw_S q1550 q1551 q122 q1552) cyX5_facing rfl ⟨(Nat.le_of_ble_eq_true rfl), (Nat.le_of_ble_eq_true rfl)⟩ (Nat.le_of_ble_eq_true rfl) dX5_evenest_51 ⟨Nat.le_of_ble_eq_true rfl, Nat.le_of_ble_eq_true rfl⟩ rfl ?_
      refine tm_imul X dX5_evenest_54 ?_
      refine tm_iload_n X 4 dX5_evenest_55 rfl rfl ?_
      refine tm_iload X 5 dX5_evenest_56 rfl ?_
      refine tm_bipush X (9 : Int32) dX5_evenest_58 (by decide) ?_
      refine tm_irem X dX5_evenest_60 (by decide) ?_
      refine tm_iconst X (4 : Int32) dX5_evenest_61 (by decide) ?_
      refine tm_isub X dX5_evenest_62 ?_
      refine tm_iload X 5 dX5_evenest_63 rfl ?_
      refine tm_bipush X (9 : Int32) dX5_evenest_65 (by decide) ?_
      refine tm_idiv X dX5_evenest_67 (by decide) ?_
      refine tm_iconst X (3 : Int32) dX5_evenest_68 (by decide) ?_
      refine tm_isub X dX5_evenest_69 ?_
      refine tm_cl1 (fun r13 e14 => ?_)
      refine tm_callSi (As := [.int ((jrem x4_7 (9 : Int32)) - (4 : Int32)), .int ((x4_7 / (9 : Int32)) - (3 : Int32))]) (rest := [.int x3_6, .int (r10 * r11)]) X (ctX5_facing l D dA ((jrem x4_7 (9 : Int32)) - (4 : Int32)) ((x4_7 / (9 : Int32)) - (3 : Int32)) r13 e14) (lw_S q1550 q1551 q122 q1552) cyX5_facing rfl ⟨(Nat.le_of_ble_eq_true rfl), (Nat.le_of_ble_eq_true rfl)⟩ (Nat.le_of_ble_eq_true rfl) dX5_evenest_70 ⟨Nat.le_of_ble_eq_true rfl, Nat.le_of_ble_eq_true rfl⟩ rfl ?_
      refine tm_imul X dX5_evenest_73 ?_
      refine tm_let (fun k => ∀ (x2_15 : Int32) (x3_16 : Int32), TM G r (k x2_15 x3_16) (wM ad dA h) 0 0 83 [(0, .ref (ad 300)), (1, .int x1), (2, .int x2_15), (3, .int x3_16), (4, .int x4_7)] []) ?_ (fun k83 hk83 => ?_)
      · intro x2_15 x3_16
        refine tm_iinc (v := (1 : Int32)) X 4 [(4, .int (x4_7 + (1 : Int32))), (0, .ref (ad 300)), (1, .int x1), (2, .int x2_15), (3, .int x3_16)] dX5_evenest_83 rfl (by decide) (Nat.le_of_ble_eq_true rfl) rfl ?_
        refine tm_goto X 22 dX5_evenest_86 rfl ?_
        refine tm_lv X [1, 2, 3, 4, 0] rfl ?_
        exact hk22 x2_15 x3_16 (x4_7 + (1 : Int32))
      · skip
        refine tm_ic_ge X 83 dX5_evenest_74 rfl ?_ ?_
        · skip
          refine tm_lv X [1, 2, 3, 4, 5] rfl ?_
          exact hk83 x2_5 x3_6
        · skip
          refine tm_iload X 5 dX5_evenest_77 rfl ?_
          refine tm_istore_n X [(2, .int x4_7), (5, .int r10), (0, .ref (ad 300)), (1, .int x1), (3, .int x3_6), (4, .int x4_7)] dX5_evenest_79 rfl (Nat.le_of_ble_eq_true rfl) rfl ?_
          refine tm_iload X 1 dX5_evenest_80 rfl ?_
          refine tm_istore_n X [(3, .int r10), (2, .int x4_7), (5, .int r10), (0, .ref (ad 300)), (1, .int x1), (4, .int x4_7)] dX5_evenest_82 rfl (Nat.le_of_ble_eq_true rfl) rfl ?_
          refine tm_lv X [3, 4, 1, 0, 5] rfl ?_
          exact hk83 x4_7 r10
  · skip
    refine tm_iconst X (-1 : Int32) dX5_evenest_9 (by decide) ?_
    exact tm_retI hRet dX5_evenest_10
def mX5_laysOpenings (h : Hp)  : Option (Hp) :=
fx FU (fun _ _ => none) (fun k2 (x1_1 : Int32) (h2 : Hp) =>
if (63 : Int32) ≤ x1_1 then (
some h2) else (
cl1 (mX5_openingOf h2 x1_1) (fun r4 =>
ck x1_1 63 (nm (u2 h2 243 x1_1.toNatClampNeg r4) (fun h5 =>
k2 (x1_1 + (1 : Int32)) h5))))) (0 : Int32) h
theorem cyX5_laysOpenings : Callee yX5_laysOpenings 0 := by unfold Callee; decide +kernel
set_option maxHeartbeats 4000000 in
theorem ctX5_laysOpenings (l : Launch) (D : va_G) (ad : Nat → Nat) (dA : Nat → ClassId) (h : Hp)  (h' : Hp) (hm : mX5_laysOpenings h = some h') : CT l yX5_laysOpenings cX5_laysOpenings 2 none D dA 5 115 0 0 (wM ad dA h) [.ref (ad 300)] none (wM ad dA h') := by
  refine ct_open (by decide) (Nat.le_of_ble_eq_true rfl) ?_
  intro G X hI hZ hV hR
  have hRet := hV rfl rfl
  refine (show TM G h' (mX5_laysOpenings h) (wM ad dA h) 0 0 0 [(0, .ref (ad 300))] [] from ?_) hm
  clear hm hI hZ hV hR
  unfold mX5_laysOpenings
  refine tm_iconst X (0 : Int32) dX5_laysOpenings_0 (by decide) ?_
  refine tm_istore_n X [(1, .int (0 : Int32)), (0, .ref (ad 300))] dX5_laysOpenings_1 rfl (Nat.le_of_ble_eq_true rfl) rfl ?_
  refine tm_lv X [1, 0] rfl ?_
  refine fx_P (fun (k : Int32 → Hp → Option (Hp)) => ∀ (x1_1 : Int32) (h2 : Hp), TM G h' (k x1_1 h2) (wM ad dA h2) 0 0 2 [(0, .ref (ad 300)), (1, .int x1_1)] []) (fun _ _ => tm_none) (fun k2 hk2 x1_1 h2 => ?_) FU (0 : Int32) h
  refine tm_iload_n X 1 dX5_laysOpenings_2 rfl rfl ?_
  refine tm_bipush X (63 : Int32) dX5_laysOpenings_3 (by decide) ?_
  refine tm_ic_ge X 25 dX5_laysOpenings_5 rfl ?_ ?_
  · skip
    exact tm_retV (wf := wM ad dA) hRet dX5_laysOpenings_25
  · skip
    refine tm_aload_n X 0 dX5_laysOpenings_8 rfl rfl ?_
    refine tm_getR X (frM_300_43 ad dA h2) in_X5 rfl (Nat.le_of_ble_eq_true rfl) q1230 rfl dX5_laysOpenings_9 ?_
    refine tm_iload_n X 1 dX5_laysOpenings_12 rfl rfl ?_
    refine tm_aload_n X 0 dX5_laysOpenings_13 rfl rfl ?_
    refine tm_iload_n X 1 dX5_laysOpenings_14 rfl rfl ?_
    refine tm_cl1 (fun r4 e3 => ?_)
    refine tm_callVi (As := [.int x1_1]) (rest := [.int x1_1, .ref (ad 243)]) (q0 := 0) X (ctX5_openingOf l D ad dA h2 x1_1 r4 e3) (lw_V q1565 q1567 qs82 q122 q1568) cyX5_openingOf rfl rfl rfl ⟨(Nat.le_of_ble_eq_true rfl), (Nat.le_of_ble_eq_true rfl)⟩ (Nat.le_of_ble_eq_true rfl) dX5_laysOpenings_15 ⟨Nat.le_of_ble_eq_true rfl, Nat.le_of_ble_eq_true rfl⟩ rfl ?_
    refine tm_iastore X (arM_243 ad dA) dX5_laysOpenings_18 (fun h5 => ?_)
    refine tm_iinc (v := (1 : Int32)) X 1 [(1, .int (x1_1 + (1 : Int32))), (0, .ref (ad 300))] dX5_laysOpenings_19 rfl (by decide) (Nat.le_of_ble_eq_true rfl) rfl ?_
    refine tm_goto X 2 dX5_laysOpenings_22 rfl ?_
    refine tm_lv X [1, 0] rfl ?_
    exact hk2 (x1_1 + (1 : Int32)) h5
def mX5_glideOf (x0 : Int32) (x1 : Int32) : Option (Int32) :=
some ((((9 : Int32) * (x1 + (3 : Int32))) + x0) + (4 : Int32))
theorem cyX5_glideOf : Callee yX5_glideOf 2 := by unfold Callee; decide +kernel
set_option maxHeartbeats 4000000 in
theorem ctX5_glideOf (l : Launch) (D : va_G) (dA : Nat → ClassId) (x0 : Int32) (x1 : Int32) (r : Int32) (hm : mX5_glideOf x0 x1 = some r) : CT l yX5_glideOf cX5_glideOf 2 (some .int) D dA 0 0 0 0 [] [.int x0, .int x1] (some (.int r)) [] := by
  refine ct_open (by decide) (Nat.le_of_ble_eq_true rfl) ?_
  intro G X hI hZ hV hR
  have hRet := hI rfl r rfl
  refine (show TM G r (mX5_glideOf x0 x1) [] 0 0 0 [(0, .int x0), (1, .int x1)] [] from ?_) hm
  clear hm hI hZ hV hR
  unfold mX5_glideOf
  refine tm_bipush X (9 : Int32) dX5_glideOf_0 (by decide) ?_
  refine tm_iload_n X 1 dX5_glideOf_2 rfl rfl ?_
  refine tm_iconst X (3 : Int32) dX5_glideOf_3 (by decide) ?_
  refine tm_iadd X dX5_glideOf_4 ?_
  refine tm_imul X dX5_glideOf_5 ?_
  refine tm_iload_n X 0 dX5_glideOf_6 rfl rfl ?_
  refine tm_iadd X dX5_glideOf_7 ?_
  refine tm_iconst X (4 : Int32) dX5_glideOf_8 (by decide) ?_
  refine tm_iadd X dX5_glideOf_9 ?_
  exact tm_retI hRet dX5_glideOf_10
def mX5_isNext (x0 : Int32) (x1 : Int32) : Option (Int32) :=
nm (((jrem x0 (9 : Int32)) - (jrem x1 (9 : Int32)))) (fun v1 =>
nm (((x0 / (9 : Int32)) - (x1 / (9 : Int32)))) (fun v2 =>
nm (fun (s3 : Int32) =>
bz s3 (some s3)) (fun k36 =>
if ((v1 * v1) + (v2 * v2)) = (1 : Int32) then (
k36 (1 : Int32)) else (
k36 (0 : Int32)))))
theorem cyX5_isNext : Callee yX5_isNext 2 := by unfold Callee; decide +kernel
set_option maxHeartbeats 4000000 in
theorem ctX5_isNext (l : Launch) (D : va_G) (dA : Nat → ClassId) (x0 : Int32) (x1 : Int32) (r : Int32) (hm : mX5_isNext x0 x1 = some r) : CT l yX5_isNext cX5_isNext 4 (some .boolean) D dA 0 0 0 0 [] [.int x0, .int x1] (some (.int r)) [] := by
  refine ct_open (by decide) (Nat.le_of_ble_eq_true rfl) ?_
  intro G X hI hZ hV hR
  have hRet := fun hv => hZ rfl r hv rfl
  refine (show TM G r (mX5_isNext x0 x1) [] 0 0 0 [(0, .int x0), (1, .int x1)] [] from ?_) hm
  clear hm hI hZ hV hR
  unfold mX5_isNext
  refine tm_iload_n X 0 dX5_isNext_0 rfl rfl ?_
  refine tm_bipush X (9 : Int32) dX5_isNext_1 (by decide) ?_
  refine tm_irem X dX5_isNext_3 (by decide) ?_
  refine tm_iload_n X 1 dX5_isNext_4 rfl rfl ?_
  refine tm_bipush X (9 : Int32) dX5_isNext_5 (by decide) ?_
  refine tm_irem X dX5_isNext_7 (by decide) ?_
  refine tm_isub X dX5_isNext_8 ?_
  refine tm_nmI (fun v1 => ?_)
  refine tm_istore_n X [(2, .int v1), (0, .int x0), (1, .int x1)] dX5_isNext_9 rfl (Nat.le_of_ble_eq_true rfl) rfl ?_
  refine tm_iload_n X 1 dX5_isNext_10 rfl rfl ?_
  refine tm_bipush X (9 : Int32) dX5_isNext_11 (by decide) ?_
  refine tm_idiv X dX5_isNext_13 (by decide) ?_
  refine tm_iload_n X 2 dX5_isNext_14 rfl rfl ?_
  refine tm_bipush X (9 : Int32) dX5_isNext_15 (by decide) ?_
  refine tm_idiv X dX5_isNext_17 (by decide) ?_
  refine tm_isub X dX5_isNext_18 ?_
  refine tm_nmI (fun v2 => ?_)
  refine tm_istore_n X [(3, .int v2), (2, .int v1), (0, .int x0), (1, .int x1)] dX5_isNext_19 rfl (Nat.le_of_ble_eq_true rfl) rfl ?_
  refine tm_iload_n X 1 dX5_isNext_20 rfl rfl ?_
  refine tm_iload_n X 1 dX5_isNext_21 rfl rfl ?_
  refine tm_imul X dX5_isNext_22 ?_
  refine tm_iload_n X 0 dX5_isNext_23 rfl rfl ?_
  refine tm_iload_n X 0 dX5_isNext_24 rfl rfl ?_
  refine tm_imul X dX5_isNext_25 ?_
  refine tm_iadd X dX5_isNext_26 ?_
  refine tm_iconst X (1 : Int32) dX5_isNext_27 (by decide) ?_
  refine tm_let (fun k => ∀ (s3 : Int32), TM G r (k s3) [] 0 0 36 [] [.int s3]) ?_ (fun k36 hk36 => ?_)
  · intro s3
    exact tm_retZ hRet dX5_isNext_36
  · skip
    refine tm_ic_ne X 35 dX5_isNext_28 rfl ?_ ?_
    · skip
      refine tm_iconst X (0 : Int32) dX5_isNext_35 (by decide) ?_
      refine tm_lv X [] rfl ?_
      exact hk36 (0 : Int32)
    · skip
      refine tm_iconst X (1 : Int32) dX5_isNext_31 (by decide) ?_
      refine tm_goto X 36 dX5_isNext_32 rfl ?_
      refine tm_lv X [] rfl ?_
      exact hk36 (1 : Int32)
