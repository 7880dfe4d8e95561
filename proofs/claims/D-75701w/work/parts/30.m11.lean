set_option maxRecDepth 100000
def mX5_wears (h : Hp) (x1 : Int32) (x2 : Int32) : Option (Int32 × Hp) :=
fx FU (fun _ _ _ => none) (fun k5 (x3_1 : Int32) (x4_2 : Int32) (h3 : Hp) =>
nm (
some (x3_1, h3)) (fun k35 =>
if x1 ≤ x4_2 then (
k35) else (
if (9999 : Int32) ≤ (h3 300 4) then (
k35) else (
cl2 (mX5_wearsNight h3 x2) (fun r5 h6 =>
nm ((x3_1 + r5)) (fun v7 =>
k5 v7 (x4_2 + (1 : Int32)) h6)))))) (0 : Int32) (0 : Int32) h
theorem cyX5_wears : Callee yX5_wears 2 := by unfold Callee; decide +kernel
set_option maxHeartbeats 4000000 in
theorem ctX5_wears (l : Launch) (D : va_G) (ad : Nat → Nat) (dA : Nat → ClassId) (h : Hp) (x1 : Int32) (x2 : Int32) (r : Int32) (h' : Hp) (hm : mX5_wears h x1 x2 = some (r, h')) : CT l yX5_wears cX5_wears 5 (some .int) D dA 6 145 0 0 (wM ad dA h) [.ref (ad 300), .int x1, .int x2] (some (.int r)) (wM ad dA h') := by
  refine ct_open (by decide) (Nat.le_of_ble_eq_true rfl) ?_
  intro G X hI hZ hV hR
  have hRet := hI rfl r rfl
  refine (show TM G (r, h') (mX5_wears h x1 x2) (wM ad dA h) 0 0 0 [(0, .ref (ad 300)), (1, .int x1), (2, .int x2)] [] from ?_) hm
  clear hm hI hZ hV hR
  unfold mX5_wears
  refine tm_iconst X (0 : Int32) dX5_wears_0 (by decide) ?_
  refine tm_istore_n X [(3, .int (0 : Int32)), (0, .ref (ad 300)), (1, .int x1), (2, .int x2)] dX5_wears_1 rfl (Nat.le_of_ble_eq_true rfl) rfl ?_
  refine tm_iconst X (0 : Int32) dX5_wears_2 (by decide) ?_
  refine tm_istore X [(4, .int (0 : Int32)), (3, .int (0 : Int32)), (0, .ref (ad 300)), (1, .int x1), (2, .int x2)] dX5_wears_3 (Nat.le_of_ble_eq_true rfl) rfl ?_
  refine tm_lv X [2, 3, 4, 1, 0] rfl ?_
  refine fx_P (fun (k : Int32 → Int32 → Hp → Option (Int32 × Hp)) => ∀ (x3_1 : Int32) (x4_2 : Int32) (h3 : Hp), TM G (r, h') (k x3_1 x4_2 h3) (wM ad dA h3) 0 0 5 [(0, .ref (ad 300)), (1, .int x1), (2, .int x2), (3, .int x3_1), (4, .int x4_2)] []) (fun _ _ _ => tm_none) (fun k5 hk5 x3_1 x4_2 h3 => ?_) FU (0 : Int32) (0 : Int32) h
  refine tm_iload X 4 dX5_wears_5 rfl ?_
  refine tm_iload_n X 1 dX5_wears_7 rfl rfl ?_
  refine tm_let (fun k => TM G (r, h') k (wM ad dA h3) 0 0 35 [(3, .int x3_1)] []) ?_ (fun k35 hk35 => ?_)
  · skip
    refine tm_iload_n X 0 dX5_wears_35 rfl rfl ?_
    exact tm_retIH (wf := wM ad dA) hRet dX5_wears_36
  · skip
    refine tm_ic_ge X 35 dX5_wears_8 rfl ?_ ?_
    · skip
      refine tm_lv X [3] rfl ?_
      exact hk35
    · skip
      refine tm_aload_n X 0 dX5_wears_11 rfl rfl ?_
      refine tm_getI X (fiM_300_4 ad dA) in_X5 rfl (Nat.le_of_ble_eq_true rfl) q1191 rfl dX5_wears_12 ?_
      refine tm_sipush X (9999 : Int32) dX5_wears_15 (by decide) ?_
      refine tm_ic_ge X 35 dX5_wears_18 rfl ?_ ?_
      · skip
        refine tm_lv X [3] rfl ?_
        exact hk35
      · skip
        refine tm_iload_n X 3 dX5_wears_21 rfl rfl ?_
        refine tm_aload_n X 0 dX5_wears_22 rfl rfl ?_
        refine tm_iload_n X 2 dX5_wears_23 rfl rfl ?_
        refine tm_cl2 (fun r5 h6 e4 => ?_)
        refine tm_callVi (As := [.int x2]) (rest := [.int x3_1]) (q0 := 0) X (ctX5_wearsNight l D ad dA h3 x2 r5 h6 e4) (lw_V q1784 q1786 qs106 q122 q1787) cyX5_wearsNight rfl rfl rfl ⟨(Nat.le_of_ble_eq_true rfl), (Nat.le_of_ble_eq_true rfl)⟩ (Nat.le_of_ble_eq_true rfl) dX5_wears_24 ⟨Nat.le_of_ble_eq_true rfl, Nat.le_of_ble_eq_true rfl⟩ rfl ?_
        refine tm_iadd X dX5_wears_27 ?_
        refine tm_nmI (fun v7 => ?_)
        refine tm_istore_n X [(3, .int v7), (0, .ref (ad 300)), (1, .int x1), (2, .int x2), (4, .int x4_2)] dX5_wears_28 rfl (Nat.le_of_ble_eq_true rfl) rfl ?_
        refine tm_iinc (v := (1 : Int32)) X 4 [(4, .int (x4_2 + (1 : Int32))), (3, .int v7), (0, .ref (ad 300)), (1, .int x1), (2, .int x2)] dX5_wears_29 rfl (by decide) (Nat.le_of_ble_eq_true rfl) rfl ?_
        refine tm_goto X 5 dX5_wears_32 rfl ?_
        refine tm_lv X [2, 3, 4, 1, 0] rfl ?_
        exact hk5 v7 (x4_2 + (1 : Int32)) h6
def mX5_nights (h : Hp) (x1 : Int32) (x2 : Int32) : Option (Int32 × Hp) :=
cl1 (mX5_isNights x1 x2) (fun r1 =>
nm (fun (s3 : Int32) (h4 : Hp) =>
some (s3, h4)) (fun k18 =>
if r1 = 0 then (
k18 (-1 : Int32) h) else (
cl2 (mX5_wears h x1 x2) (fun r6 h7 =>
k18 r6 h7))))
theorem cyX5_nights : Callee yX5_nights 2 := by unfold Callee; decide +kernel
set_option maxHeartbeats 4000000 in
theorem ctX5_nights (l : Launch) (D : va_G) (ad : Nat → Nat) (dA : Nat → ClassId) (h : Hp) (x1 : Int32) (x2 : Int32) (r : Int32) (h' : Hp) (hm : mX5_nights h x1 x2 = some (r, h')) : CT l yX5_nights cX5_nights 3 (some .int) D dA 7 169 0 0 (wM ad dA h) [.ref (ad 300), .int x1, .int x2] (some (.int r)) (wM ad dA h') := by
  refine ct_open (by decide) (Nat.le_of_ble_eq_true rfl) ?_
  intro G X hI hZ hV hR
  have hRet := hI rfl r rfl
  refine (show TM G (r, h') (mX5_nights h x1 x2) (wM ad dA h) 0 0 0 [(0, .ref (ad 300)), (1, .int x1), (2, .int x2)] [] from ?_) hm
  clear hm hI hZ hV hR
  unfold mX5_nights
  refine tm_iload_n X 1 dX5_nights_0 rfl rfl ?_
  refine tm_iload_n X 2 dX5_nights_1 rfl rfl ?_
  refine tm_cl1 (fun r1 e2 => ?_)
  refine tm_callSi (As := [.int x1, .int x2]) (rest := []) X (ctX5_isNights l D dA x1 x2 r1 e2) (lw_S q1777 q1778 q122 q1779) cyX5_isNights rfl ⟨(Nat.le_of_ble_eq_true rfl), (Nat.le_of_ble_eq_true rfl)⟩ (Nat.le_of_ble_eq_true rfl) dX5_nights_2 ⟨Nat.le_of_ble_eq_true rfl, Nat.le_of_ble_eq_true rfl⟩ rfl ?_
  refine tm_let (fun k => ∀ (s3 : Int32) (h4 : Hp), TM G (r, h') (k s3 h4) (wM ad dA h4) 0 0 18 [] [.int s3]) ?_ (fun k18 hk18 => ?_)
  · intro s3 h4
    exact tm_retIH (wf := wM ad dA) hRet dX5_nights_18
  · skip
    refine tm_if_eq X 17 dX5_nights_5 rfl ?_ ?_
    · skip
      refine tm_iconst X (-1 : Int32) dX5_nights_17 (by decide) ?_
      refine tm_lv X [] rfl ?_
      exact hk18 (-1 : Int32) h
    · skip
      refine tm_aload_n X 0 dX5_nights_8 rfl rfl ?_
      refine tm_iload_n X 1 dX5_nights_9 rfl rfl ?_
      refine tm_iload_n X 2 dX5_nights_10 rfl rfl ?_
      refine tm_cl2 (fun r6 h7 e5 => ?_)
      refine tm_callVi (As := [.int x1, .int x2]) (rest := []) (q0 := 0) X (ctX5_wears l D ad dA h x1 x2 r6 h7 e5) (lw_V q1780 q1782 qs105 q122 q1783) cyX5_wears rfl rfl rfl ⟨(Nat.le_of_ble_eq_true rfl), (Nat.le_of_ble_eq_true rfl)⟩ (Nat.le_of_ble_eq_true rfl) dX5_nights_11 ⟨Nat.le_of_ble_eq_true rfl, Nat.le_of_ble_eq_true rfl⟩ rfl ?_
      refine tm_goto X 18 dX5_nights_14 rfl ?_
      refine tm_lv X [] rfl ?_
      exact hk18 r6 h7
def mX5_shelves (h : Hp) (x1 : Int32) : Option (Hp) :=
fx FU (fun _ _ => none) (fun k2 (x2_1 : Int32) (h2 : Hp) =>
if (96 : Int32) ≤ x2_1 then (
ck (x1 + (96 : Int32)) 200 (nm (u2 h2 255 (x1 + (96 : Int32)).toNatClampNeg (h2 201 0)) (fun h3 =>
ck (x1 + (97 : Int32)) 200 (nm (u2 h3 255 (x1 + (97 : Int32)).toNatClampNeg (h3 201 1)) (fun h4 =>
ck (x1 + (98 : Int32)) 200 (nm (u2 h4 255 (x1 + (98 : Int32)).toNatClampNeg (h4 300 3)) (fun h5 =>
ck (x1 + (99 : Int32)) 200 (nm (u2 h5 255 (x1 + (99 : Int32)).toNatClampNeg (h5 300 4)) (fun h6 =>
some h6))))))))) else (
ck x2_1 96 (
ck (x1 + x2_1) 200 (nm (u2 h2 255 (x1 + x2_1).toNatClampNeg (h2 200 x2_1.toNatClampNeg)) (fun h7 =>
k2 (x2_1 + (1 : Int32)) h7))))) (0 : Int32) h
theorem cyX5_shelves : Callee yX5_shelves 1 := by unfold Callee; decide +kernel
set_option maxHeartbeats 4000000 in
theorem ctX5_shelves (l : Launch) (D : va_G) (ad : Nat → Nat) (dA : Nat → ClassId) (h : Hp) (x1 : Int32) (h' : Hp) (hm : mX5_shelves h x1 = some h') : CT l yX5_shelves cX5_shelves 3 none D dA 0 0 0 0 (wM ad dA h) [.ref (ad 300), .int x1] none (wM ad dA h') := by
  refine ct_open (by decide) (Nat.le_of_ble_eq_true rfl) ?_
  intro G X hI hZ hV hR
  have hRet := hV rfl rfl
  refine (show TM G h' (mX5_shelves h x1) (wM ad dA h) 0 0 0 [(0, .ref (ad 300)), (1, .int x1)] [] from ?_) hm
  clear hm hI hZ hV hR
  unfold mX5_shelves
  refine tm_iconst X (0 : Int32) dX5_shelves_0 (by decide) ?_
  refine tm_istore_n X [(2, .int (0 : Int32)), (0, .ref (ad 300)), (1, .int x1)] dX5_shelves_1 rfl (Nat.le_of_ble_eq_true rfl) rfl ?_
  refine tm_lv X [1, 2, 0] rfl ?_
  refine fx_P (fun (k : Int32 → Hp → Option (Hp)) => ∀ (x2_1 : Int32) (h2 : Hp), TM G h' (k x2_1 h2) (wM ad dA h2) 0 0 2 [(0, .ref (ad 300)), (1, .int x1), (2, .int x2_1)] []) (fun _ _ => tm_none) (fun k2 hk2 x2_1 h2 => ?_) FU (0 : Int32) h
  refine tm_iload_n X 2 dX5_shelves_2 rfl rfl ?_
  refine tm_bipush X (96 : Int32) dX5_shelves_3 (by decide) ?_
  refine tm_ic_ge X 28 dX5_shelves_5 rfl ?_ ?_
  · skip
    refine tm_aload_n X 0 dX5_shelves_28 rfl rfl ?_
    refine tm_getR X (frM_300_55 ad dA h2) in_X5 rfl (Nat.le_of_ble_eq_true rfl) q1242 rfl dX5_shelves_29 ?_
    refine tm_iload_n X 1 dX5_shelves_32 rfl rfl ?_
    refine tm_bipush X (96 : Int32) dX5_shelves_33 (by decide) ?_
    refine tm_iadd X dX5_shelves_35 ?_
    refine tm_aload_n X 0 dX5_shelves_36 rfl rfl ?_
    refine tm_getR X (frM_300_1 ad dA h2) in_X5 rfl (Nat.le_of_ble_eq_true rfl) q1188 rfl dX5_shelves_37 ?_
    refine tm_iconst X (0 : Int32) dX5_shelves_40 (by decide) ?_
    refine tm_ialoadL (j := 0) X (arM_201 ad dA) (by unfold vp_in; decide) (by decide) dX5_shelves_41 ?_
    refine tm_iastore X (arM_255 ad dA) dX5_shelves_42 (fun h3 => ?_)
    refine tm_aload_n X 0 dX5_shelves_43 rfl rfl ?_
    refine tm_getR X (frM_300_55 ad dA h3) in_X5 rfl (Nat.le_of_ble_eq_true rfl) q1242 rfl dX5_shelves_44 ?_
    refine tm_iload_n X 1 dX5_shelves_47 rfl rfl ?_
    refine tm_bipush X (97 : Int32) dX5_shelves_48 (by decide) ?_
    refine tm_iadd X dX5_shelves_50 ?_
    refine tm_aload_n X 0 dX5_shelves_51 rfl rfl ?_
    refine tm_getR X (frM_300_1 ad dA h3) in_X5 rfl (Nat.le_of_ble_eq_true rfl) q1188 rfl dX5_shelves_52 ?_
    refine tm_iconst X (1 : Int32) dX5_shelves_55 (by decide) ?_
    refine tm_ialoadL (j := 1) X (arM_201 ad dA) (by unfold vp_in; decide) (by decide) dX5_shelves_56 ?_
    refine tm_iastore X (arM_255 ad dA) dX5_shelves_57 (fun h4 => ?_)
    refine tm_aload_n X 0 dX5_shelves_58 rfl rfl ?_
    refine tm_getR X (frM_300_55 ad dA h4) in_X5 rfl (Nat.le_of_ble_eq_true rfl) q1242 rfl dX5_shelves_59 ?_
    refine tm_iload_n X 1 dX5_shelves_62 rfl rfl ?_
    refine tm_bipush X (98 : Int32) dX5_shelves_63 (by decide) ?_
    refine tm_iadd X dX5_shelves_65 ?_
    refine tm_aload_n X 0 dX5_shelves_66 rfl rfl ?_
    refine tm_getI X (fiM_300_3 ad dA) in_X5 rfl (Nat.le_of_ble_eq_true rfl) q1190 rfl dX5_shelves_67 ?_
    refine tm_iastore X (arM_255 ad dA) dX5_shelves_70 (fun h5 => ?_)
    refine tm_aload_n X 0 dX5_shelves_71 rfl rfl ?_
    refine tm_getR X (frM_300_55 ad dA h5) in_X5 rfl (Nat.le_of_ble_eq_true rfl) q1242 rfl dX5_shelves_72 ?_
    refine tm_iload_n X 1 dX5_shelves_75 rfl rfl ?_
    refine tm_bipush X (99 : Int32) dX5_shelves_76 (by decide) ?_
    refine tm_iadd X dX5_shelves_78 ?_
    refine tm_aload_n X 0 dX5_shelves_79 rfl rfl ?_
    refine tm_getI X (fiM_300_4 ad dA) in_X5 rfl (Nat.le_of_ble_eq_true rfl) q1191 rfl dX5_shelves_80 ?_
    refine tm_iastore X (arM_255 ad dA) dX5_shelves_83 (fun h6 => ?_)
    exact tm_retV (wf := wM ad dA) hRet dX5_shelves_84
  · skip
    refine tm_aload_n X 0 dX5_shelves_8 rfl rfl ?_
    refine tm_getR X (frM_300_55 ad dA h2) in_X5 rfl (Nat.le_of_ble_eq_true rfl) q1242 rfl dX5_shelves_9 ?_
    refine tm_iload_n X 1 dX5_shelves_12 rfl rfl ?_
    refine tm_iload_n X 2 dX5_shelves_13 rfl rfl ?_
    refine tm_iadd X dX5_shelves_14 ?_
    refine tm_aload_n X 0 dX5_shelves_15 rfl rfl ?_
    refine tm_getR X (frM_300_0 ad dA h2) in_X5 rfl (Nat.le_of_ble_eq_true rfl) q1187 rfl dX5_shelves_16 ?_
    refine tm_iload_n X 2 dX5_shelves_19 rfl rfl ?_
    refine tm_iaload X (arM_200 ad dA) dX5_shelves_20 ?_
    refine tm_iastore X (arM_255 ad dA) dX5_shelves_21 (fun h7 => ?_)
    refine tm_iinc (v := (1 : Int32)) X 2 [(2, .int (x2_1 + (1 : Int32))), (0, .ref (ad 300)), (1, .int x1)] dX5_shelves_22 rfl (by decide) (Nat.le_of_ble_eq_true rfl) rfl ?_
    refine tm_goto X 2 dX5_shelves_25 rfl ?_
    refine tm_lv X [1, 2, 0] rfl ?_
    exact hk2 (x2_1 + (1 : Int32)) h7
def mX5_triedIs (h : Hp) (x1 : Int32) (x2 : Int32) : Option (Int32 × Hp) :=
cl1 (mX5_in x2 (100 : Int32) (147 : Int32)) (fun r1 =>
if r1 = 0 then (
cl1 (mX5_in x2 (200 : Int32) (247 : Int32)) (fun r3 =>
if r3 = 0 then (
nm (fun (s5 : Int32) (h6 : Hp) =>
some (s5, h6)) (fun k73 =>
if x2 = 0 then (
k73 x1 h) else (
if x2 = (1 : Int32) then (
cl1 (mX5_opening h (0 : Int32) (0 : Int32)) (fun r11 =>
k73 r11 h)) else (
cl2 (mX5_marks h (0 : Int32) (0 : Int32) (0 : Int32)) (fun r8 h9 =>
k73 r8 h9))))) else (
cl1 (mX5_lowerAt h (x2 - (200 : Int32))) (fun r13 =>
some (r13, h))))) else (
cl1 (mX5_upperAt h (x2 - (100 : Int32))) (fun r15 =>
some (r15, h))))
theorem cyX5_triedIs : Callee yX5_triedIs 2 := by unfold Callee; decide +kernel
set_option maxHeartbeats 4000000 in
theorem ctX5_triedIs (l : Launch) (D : va_G) (ad : Nat → Nat) (dA : Nat → ClassId) (h : Hp) (x1 : Int32) (x2 : Int32) (r : Int32) (h' : Hp) (hm : mX5_triedIs h x1 x2 = some (r, h')) : CT l yX5_triedIs cX5_triedIs 3 (some .int) D dA 5 120 0 0 (wM ad dA h) [.ref (ad 300), .int x1, .int x2] (some (.int r)) (wM ad dA h') := by
  refine ct_open (by decide) (Nat.le_of_ble_eq_true rfl) ?_
  intro G X hI hZ hV hR
  have hRet := hI rfl r rfl
  refine (show TM G (r, h') (mX5_triedIs h x1 x2) (wM ad dA h) 0 0 0 [(0, .ref (ad 300)), (1, .int x1), (2, .int x2)] [] from ?_) hm
  clear hm hI hZ hV hR
  unfold mX5_triedIs
  refine tm_iload_n X 2 dX5_triedIs_0 rfl rfl ?_
  refine tm_bipush X (100 : Int32) dX5_triedIs_1 (by decide) ?_
  refine tm_sipush X (147 : Int32) dX5_triedIs_3 (by decide) ?_
  refine tm_cl1 (fun r1 e2 => ?_)
  refine tm_callSi (As := [.int x2, .int (100 : Int32), .int (147 : Int32)]) (rest := []) X (ctX5_in l D dA x2 (100 : Int32) (147 : Int32) r1 e2) (lw_S q1366 q1367 q122 q1368) cyX5_in rfl ⟨(Nat.le_of_ble_eq_true rfl), (Nat.le_of_ble_eq_true rfl)⟩ (Nat.le_of_ble_eq_true rfl) dX5_triedIs_6 ⟨Nat.le_of_ble_eq_true rfl, Nat.le_of_ble_eq_true rfl⟩ rfl ?_
  refine tm_if_eq X 21 dX5_triedIs_9 rfl ?_ ?_
  · skip
    refine tm_iload_n X 2 dX5_triedIs_21 rfl rfl ?_
    refine tm_sipush X (200 : Int32) dX5_triedIs_22 (by decide) ?_
    refine tm_sipush X (247 : Int32) dX5_triedIs_25 (by decide) ?_
    refine tm_cl1 (fun r3 e4 => ?_)
    refine tm_callSi (As := [.int x2, .int (200 : Int32), .int (247 : Int32)]) (rest := []) X (ctX5_in l D dA x2 (200 : Int32) (247 : Int32) r3 e4) (lw_S q1366 q1367 q122 q1368) cyX5_in rfl ⟨(Nat.le_of_ble_eq_true rfl), (Nat.le_of_ble_eq_true rfl)⟩ (Nat.le_of_ble_eq_true rfl) dX5_triedIs_28 ⟨Nat.le_of_ble_eq_true rfl, Nat.le_of_ble_eq_true rfl⟩ rfl ?_
    refine tm_if_eq X 44 dX5_triedIs_31 rfl ?_ ?_
    · skip
      refine tm_iload_n X 2 dX5_triedIs_44 rfl rfl ?_
      refine tm_let (fun k => ∀ (s5 : Int32) (h6 : Hp), TM G (r, h') (k s5 h6) (wM ad dA h6) 0 0 73 [] [.int s5]) ?_ (fun k73 hk73 => ?_)
      · intro s5 h6
        exact tm_retIH (wf := wM ad dA) hRet dX5_triedIs_73
      · skip
        refine tm_if_ne X 52 dX5_triedIs_45 rfl ?_ ?_
        · skip
          refine tm_iload_n X 2 dX5_triedIs_52 rfl rfl ?_
          refine tm_iconst X (1 : Int32) dX5_triedIs_53 (by decide) ?_
          refine tm_ic_ne X 66 dX5_triedIs_54 rfl ?_ ?_
          · skip
            refine tm_aload_n X 0 dX5_triedIs_66 rfl rfl ?_
            refine tm_iconst X (0 : Int32) dX5_triedIs_67 (by decide) ?_
            refine tm_iconst X (0 : Int32) dX5_triedIs_68 (by decide) ?_
            refine tm_iconst X (0 : Int32) dX5_triedIs_69 (by decide) ?_
            refine tm_cl2 (fun r8 h9 e7 => ?_)
            refine tm_callVi (As := [.int (0 : Int32), .int (0 : Int32), .int (0 : Int32)]) (rest := []) (q0 := 0) X (ctX5_marks l D ad dA h (0 : Int32) (0 : Int32) (0 : Int32) r8 h9 e7) (lw_V q1542 q1544 qs79 q122 q1545) cyX5_marks rfl rfl rfl ⟨(Nat.le_of_ble_eq_true rfl), (Nat.le_of_ble_eq_true rfl)⟩ (Nat.le_of_ble_eq_true rfl) dX5_triedIs_70 ⟨Nat.le_of_ble_eq_true rfl, Nat.le_of_ble_eq_true rfl⟩ rfl ?_
            refine tm_lv X [] rfl ?_
            exact hk73 r8 h9
          · skip
            refine tm_aload_n X 0 dX5_triedIs_57 rfl rfl ?_
            refine tm_iconst X (0 : Int32) dX5_triedIs_58 (by decide) ?_
            refine tm_iconst X (0 : Int32) dX5_triedIs_59 (by decide) ?_
            refine tm_cl1 (fun r11 e10 => ?_)
            refine tm_callVi (As := [.int (0 : Int32), .int (0 : Int32)]) (rest := []) (q0 := 0) X (ctX5_opening l D ad dA h (0 : Int32) (0 : Int32) r11 e10) (lw_V q1520 q1522 qs75 q122 q1523) cyX5_opening rfl rfl rfl ⟨(Nat.le_of_ble_eq_true rfl), (Nat.le_of_ble_eq_true rfl)⟩ (Nat.le_of_ble_eq_true rfl) dX5_triedIs_60 ⟨Nat.le_of_ble_eq_true rfl, Nat.le_of_ble_eq_true rfl⟩ rfl ?_
            refine tm_goto X 73 dX5_triedIs_63 rfl ?_
            refine tm_lv X [] rfl ?_
            exact hk73 r11 h
        · skip
          refine tm_iload_n X 1 dX5_triedIs_48 rfl rfl ?_
          refine tm_goto X 73 dX5_triedIs_49 rfl ?_
          refine tm_lv X [] rfl ?_
          exact hk73 x1 h
    · skip
      refine tm_aload_n X 0 dX5_triedIs_34 rfl rfl ?_
      refine tm_iload_n X 2 dX5_triedIs_35 rfl rfl ?_
      refine tm_sipush X (200 : Int32) dX5_triedIs_36 (by decide) ?_
      refine tm_isub X dX5_triedIs_39 ?_
      refine tm_cl1 (fun r13 e12 => ?_)
      refine tm_callVi (As := [.int (x2 - (200 : Int32))]) (rest := []) (q0 := 0) X (ctX5_lowerAt l D ad dA h (x2 - (200 : Int32)) r13 e12) (lw_V q1535 q1537 qs78 q122 q1538) cyX5_lowerAt rfl rfl rfl ⟨(Nat.le_of_ble_eq_true rfl), (Nat.le_of_ble_eq_true rfl)⟩ (Nat.le_of_ble_eq_true rfl) dX5_triedIs_40 ⟨Nat.le_of_ble_eq_true rfl, Nat.le_of_ble_eq_true rfl⟩ rfl ?_
      exact tm_retIH (wf := wM ad dA) hRet dX5_triedIs_43
  · skip
    refine tm_aload_n X 0 dX5_triedIs_12 rfl rfl ?_
    refine tm_iload_n X 2 dX5_triedIs_13 rfl rfl ?_
    refine tm_bipush X (100 : Int32) dX5_triedIs_14 (by decide) ?_
    refine tm_isub X dX5_triedIs_16 ?_
    refine tm_cl1 (fun r15 e14 => ?_)
    refine tm_callVi (As := [.int (x2 - (100 : Int32))]) (rest := []) (q0 := 0) X (ctX5_upperAt l D ad dA h (x2 - (100 : Int32)) r15 e14) (lw_V q1531 q1533 qs77 q122 q1534) cyX5_upperAt rfl rfl rfl ⟨(Nat.le_of_ble_eq_true rfl), (Nat.le_of_ble_eq_true rfl)⟩ (Nat.le_of_ble_eq_true rfl) dX5_triedIs_17 ⟨Nat.le_of_ble_eq_true rfl, Nat.le_of_ble_eq_true rfl⟩ rfl ?_
    exact tm_retIH (wf := wM ad dA) hRet dX5_triedIs_20
def mX5_takesBack (h : Hp) (x1 : Int32) : Option (Hp) :=
fx FU (fun _ _ => none) (fun k2 (x2_1 : Int32) (h2 : Hp) =>
if (96 : Int32) ≤ x2_1 then (
nm ((x1 + (96 : Int32))) (fun v3 =>
ck v3 200 (
nm (u2 h2 201 0 (h2 255 v3.toNatClampNeg)) (fun h4 =>
nm ((x1 + (97 : Int32))) (fun v5 =>
ck v5 200 (
nm (u2 h4 201 1 (h4 255 v5.toNatClampNeg)) (fun h6 =>
nm ((x1 + (98 : Int32))) (fun v7 =>
ck v7 200 (
nm (u2 h6 300 3 (h6 255 v7.toNatClampNeg)) (fun h8 =>
nm ((x1 + (99 : Int32))) (fun v9 =>
ck v9 200 (
nm (u2 h8 300 4 (h8 255 v9.toNatClampNeg)) (fun h10 =>
some h10))))))))))))) else (
nm ((x1 + x2_1)) (fun v11 =>
ck v11 200 (
ck x2_1 96 (nm (u2 h2 200 x2_1.toNatClampNeg (h2 255 v11.toNatClampNeg)) (fun h12 =>
k2 (x2_1 + (1 : Int32)) h12)))))) (0 : Int32) h
theorem cyX5_takesBack : Callee yX5_takesBack 1 := by unfold Callee; decide +kernel
set_option maxHeartbeats 4000000 in
theorem ctX5_takesBack (l : Launch) (D : va_G) (ad : Nat → Nat) (dA : Nat → ClassId) (h : Hp) (x1 : Int32) (h' : Hp) (hm : mX5_takesBack h x1 = some h') : CT l yX5_takesBack cX5_takesBack 3 none D dA 0 0 0 0 (wM ad dA h) [.ref (ad 300), .int x1] none (wM ad dA h') := by
  refine ct_open (by decide) (Nat.le_of_ble_eq_true rfl) ?_
  intro G X hI hZ hV hR
  have hRet := hV rfl rfl
  refine (show TM G h' (mX5_takesBack h x1) (wM ad dA h) 0 0 0 [(0, .ref (ad 300)), (1, .int x1)] [] from ?_) hm
  clear hm hI hZ hV hR
  unfold mX5_takesBack
  refine tm_iconst X (0 : Int32) dX5_takesBack_0 (by decide) ?_
  refine tm_istore_n X [(2, .int (0 : Int32)), (0, .ref (ad 300)), (1, .int x1)] dX5_takesBack_1 rfl (Nat.le_of_ble_eq_true rfl) rfl ?_
  refine tm_lv X [1, 2, 0] rfl ?_
  refine fx_P (fun (k : Int32 → Hp → Option (Hp)) => ∀ (x2_1 : Int32) (h2 : Hp), TM G h' (k x2_1 h2) (wM ad dA h2) 0 0 2 [(0, .ref (ad 300)), (1, .int x1), (2, .int x2_1)] []) (fun _ _ => tm_none) (fun k2 hk2 x2_1 h2 => ?_) FU (0 : Int32) h
  refine tm_iload_n X 2 dX5_takesBack_2 rfl rfl ?_
  refine tm_bipush X (96 : Int32) dX5_takesBack_3 (by decide) ?_
  refine tm_ic_ge X 28 dX5_takesBack_5 rfl ?_ ?_
  · skip
    refine tm_aload_n X 0 dX5_takesBack_28 rfl rfl ?_
    refine tm_getR X (frM_300_1 ad dA h2) in_X5 rfl (Nat.le_of_ble_eq_true rfl) q1188 rfl dX5_takesBack_29 ?_
    refine tm_iconst X (0 : Int32) dX5_takesBack_32 (by decide) ?_
    refine tm_aload_n X 0 dX5_takesBack_33 rfl rfl ?_
    refine tm_getR X (frM_300_55 ad dA h2) in_X5 rfl (Nat.le_of_ble_eq_true rfl) q1242 rfl dX5_takesBack_34 ?_
    refine tm_iload_n X 1 dX5_takesBack_37 rfl rfl ?_
    refine tm_bipush X (96 : Int32) dX5_takesBack_38 (by decide) ?_
    refine tm_iadd X dX5_takesBack_40 ?_
    refine tm_nmI (fun v3 => ?_)
    refine tm_iaload X (arM_255 ad dA) dX5_takesBack_41 ?_
    refine tm_iastoreL (j := 0) X (arM_201 ad dA) (by unfold vp_in; decide) (by decide) dX5_takesBack_42 (fun h4 => ?_)
    refine tm_aload_n X 0 dX5_takesBack_43 rfl rfl ?_
    refine tm_getR X (frM_300_1 ad dA h4) in_X5 rfl (Nat.le_of_ble_eq_true rfl) q1188 rfl dX5_takesBack_44 ?_
    refine tm_iconst X (1 : Int32) dX5_takesBack_47 (by decide) ?_
    refine tm_aload_n X 0 dX5_takesBack_48 rfl rfl ?_
    refine tm_getR X (frM_300_55 ad dA h4) in_X5 rfl (Nat.le_of_ble_eq_true rfl) q1242 rfl dX5_takesBack_49 ?_
    refine tm_iload_n X 1 dX5_takesBack_52 rfl rfl ?_
    refine tm_bipush X (97 : Int32) dX5_takesBack_53 (by decide) ?_
    refine tm_iadd X dX5_takesBack_55 ?_
    refine tm_nmI (fun v5 => ?_)
    refine tm_iaload X (arM_255 ad dA) dX5_takesBack_56 ?_
    refine tm_iastoreL (j := 1) X (arM_201 ad dA) (by unfold vp_in; decide) (by decide) dX5_takesBack_57 (fun h6 => ?_)
    refine tm_aload_n X 0 dX5_takesBack_58 rfl rfl ?_
    refine tm_aload_n X 0 dX5_takesBack_59 rfl rfl ?_
    refine tm_getR X (frM_300_55 ad dA h6) in_X5 rfl (Nat.le_of_ble_eq_true rfl) q1242 rfl dX5_takesBack_60 ?_
    refine tm_iload_n X 1 dX5_takesBack_63 rfl rfl ?_
    refine tm_bipush X (98 : Int32) dX5_takesBack_64 (by decide) ?_
    refine tm_iadd X dX5_takesBack_66 ?_
    refine tm_nmI (fun v7 => ?_)
    refine tm_iaload X (arM_255 ad dA) dX5_takesBack_67 ?_
    refine tm_putI X (fiM_300_3 ad dA) in_X5 rfl (Nat.le_of_ble_eq_true rfl) tyX5 tyX5_ok nmX5 rfl rfl q1190 rfl dX5_takesBack_68 (fun h8 => ?_)
    refine tm_aload_n X 0 dX5_takesBack_71 rfl rfl ?_
    refine tm_aload_n X 0 dX5_takesBack_72 rfl rfl ?_
    refine tm_getR X (frM_300_55 ad dA h8) in_X5 rfl (Nat.le_of_ble_eq_true rfl) q1242 rfl dX5_takesBack_73 ?_
    refine tm_iload_n X 1 dX5_takesBack_76 rfl rfl ?_
    refine tm_bipush X (99 : Int32) dX5_takesBack_77 (by decide) ?_
    refine tm_iadd X dX5_takesBack_79 ?_
    refine tm_nmI (fun v9 => ?_)
    refine tm_iaload X (arM_255 ad dA) dX5_takesBack_80 ?_
    refine tm_putI X (fiM_300_4 ad dA) in_X5 rfl (Nat.le_of_ble_eq_true rfl) tyX5 tyX5_ok nmX5 rfl rfl q1191 rfl dX5_takesBack_81 (fun h10 => ?_)
    exact tm_retV (wf := wM ad dA) hRet dX5_takesBack_84
  · skip
    refine tm_aload_n X 0 dX5_takesBack_8 rfl rfl ?_
    refine tm_getR X (frM_300_0 ad dA h2) in_X5 rfl (Nat.le_of_ble_eq_true rfl) q1187 rfl dX5_takesBack_9 ?_
    refine tm_iload_n X 2 dX5_takesBack_12 rfl rfl ?_
    refine tm_aload_n X 0 dX5_takesBack_13 rfl rfl ?_
    refine tm_getR X (frM_300_55 ad dA h2) in_X5 rfl (Nat.le_of_ble_eq_true rfl) q1242 rfl dX5_takesBack_14 ?_
    refine tm_iload_n X 1 dX5_takesBack_17 rfl rfl ?_
    refine tm_iload_n X 2 dX5_takesBack_18 rfl rfl ?_
    refine tm_iadd X dX5_takesBack_19 ?_
    refine tm_nmI (fun v11 => ?_)
    refine tm_iaload X (arM_255 ad dA) dX5_takesBack_20 ?_
    refine tm_iastore X (arM_200 ad dA) dX5_takesBack_21 (fun h12 => ?_)
    refine tm_iinc (v := (1 : Int32)) X 2 [(2, .int (x2_1 + (1 : Int32))), (0, .ref (ad 300)), (1, .int x1)] dX5_takesBack_22 rfl (by decide) (Nat.le_of_ble_eq_true rfl) rfl ?_
    refine tm_goto X 2 dX5_takesBack_25 rfl ?_
    refine tm_lv X [1, 2, 0] rfl ?_
    exact hk2 (x2_1 + (1 : Int32)) h12
def mX5_tried (h : Hp) (x1 : Int32) (x2 : Int32) (x3 : Int32) : Option (Int32 × Hp) :=
cl1 (mX5_isNights x1 x2) (fun r1 =>
nm (
some ((-1 : Int32), h)) (fun k42 =>
if r1 = 0 then (
k42) else (
cl1 (mX5_in x3 (0 : Int32) (2 : Int32)) (fun r3 =>
nm (
cl1 (mX5_shelves h (0 : Int32)) (fun h6 =>
cl2 (mX5_wears h6 x1 x2) (fun r8 h9 =>
cl2 (mX5_triedIs h9 r8 x3) (fun r11 h12 =>
cl1 (mX5_takesBack h12 (0 : Int32)) (fun h14 =>
some (r11, h14)))))) (fun k44 =>
if r3 = 0 then (
cl1 (mX5_in x3 (100 : Int32) (147 : Int32)) (fun r15 =>
if r15 = 0 then (
cl1 (mX5_in x3 (200 : Int32) (247 : Int32)) (fun r17 =>
if r17 = 0 then (
k42) else (
k44))) else (
k44))) else (
k44))))))
theorem cyX5_tried : Callee yX5_tried 3 := by unfold Callee; decide +kernel
set_option maxHeartbeats 4000000 in
theorem ctX5_tried (l : Launch) (D : va_G) (ad : Nat → Nat) (dA : Nat → ClassId) (h : Hp) (x1 : Int32) (x2 : Int32) (x3 : Int32) (r : Int32) (h' : Hp) (hm : mX5_tried h x1 x2 x3 = some (r, h')) : CT l yX5_tried cX5_tried 6 (some .int) D dA 7 169 0 0 (wM ad dA h) [.ref (ad 300), .int x1, .int x2, .int x3] (some (.int r)) (wM ad dA h') := by
  refine ct_open (by decide) (Nat.le_of_ble_eq_true rfl) ?_
  intro G X hI hZ hV hR
  have hRet := hI rfl r rfl
  refine (show TM G (r, h') (mX5_tried h x1 x2 x3) (wM ad dA h) 0 0 0 [(0, .ref (ad 300)), (1, .int x1), (2, .int x2), (3, .int x3)] [] from ?_) hm
  clear hm hI hZ hV hR
  unfold mX5_tried
  refine tm_iload_n X 1 dX5_tried_0 rfl rfl ?_
  refine tm_iload_n X 2 dX5_tried_1 rfl rfl ?_
  refine tm_cl1 (fun r1 e2 => ?_)
  refine tm_callSi (As := [.int x1, .int x2]) (rest := []) X (ctX5_isNights l D dA x1 x2 r1 e2) (lw_S q1777 q1778 q122 q1779) cyX5_isNights rfl ⟨(Nat.le_of_ble_eq_true rfl), (Nat.le_of_ble_eq_true rfl)⟩ (Nat.le_of_ble_eq_true rfl) dX5_tried_2 ⟨Nat.le_of_ble_eq_true rfl, Nat.le_of_ble_eq_true rfl⟩ rfl ?_
  refine tm_let (fun k => TM G (r, h') k (wM ad dA h) 0 0 42 [] []) ?_ (fun k42 hk42 => ?_)
  · skip
    refine tm_iconst X (-1 : Int32) dX5_tried_42 (by decide) ?_
    exact tm_retIH (wf := wM ad dA) hRet dX5_tried_43
  · skip
    refine tm_if_eq X 42 dX5_tried_5 rfl ?_ ?_
    · skip
      refine tm_lv X [] rfl ?_
      exact hk42
    · skip
      refine tm_iload_n X 3 dX5_tried_8 rfl rfl ?_
      refine tm_iconst X (0 : Int32) dX5_tried_9 (by decide) ?_
      refine tm_iconst X (2 : Int32) dX5_tried_10 (by decide) ?_
      refine tm_cl1 (fun r3 e4 => ?_)
      refine tm_callSi (As := [.int x3, .int (0 : Int32), .int (2 : Int32)]) (rest := []) X (ctX5_in l D dA x3 (0 : Int32) (2 : Int32) r3 e4) (lw_S q1366 q1367 q122 q1368) cyX5_in rfl ⟨(Nat.le_of_ble_eq_true rfl), (Nat.le_of_ble_eq_true rfl)⟩ (Nat.le_of_ble_eq_true rfl) dX5_tried_11 ⟨Nat.le_of_ble_eq_true rfl, Nat.le_of_ble_eq_true rfl⟩ rfl ?_
      refine tm_let (fun k => TM G (r, h') k (wM ad dA h) 0 0 44 [(0, .ref (ad 300)), (1, .int x1), (2, .int x2), (3, .int x3)] []) ?_ (fun k44 hk44 => ?_)
      · skip
        refine tm_aload_n X 0 dX5_tried_44 rfl rfl ?_
        refine tm_iconst X (0 : Int32) dX5_tried_45 (by decide) ?_
        refine tm_cl1 (fun h6 e5 => ?_)
        refine tm_callVv (As := [.int (0 : Int32)]) (rest := []) (q0 := 0) X (ctX5_shelves l D ad dA h (0 : Int32) h6 e5) (lw_V q1816 q1818 qs112 q122 q1819) cyX5_shelves rfl rfl rfl ⟨(Nat.le_of_ble_eq_true rfl), (Nat.le_of_ble_eq_true rfl)⟩ (Nat.le_of_ble_eq_true rfl) dX5_tried_46 ⟨Nat.le_of_ble_eq_true rfl, Nat.le_of_ble_eq_true rfl⟩ rfl ?_
        refine tm_aload_n X 0 dX5_tried_49 rfl rfl ?_
        refine tm_iload_n X 1 dX5_tried_50 rfl rfl ?_
        refine tm_iload_n X 2 dX5_tried_51 rfl rfl ?_
        refine tm_cl2 (fun r8 h9 e7 => ?_)
        refine tm_callVi (As := [.int x1, .int x2]) (rest := []) (q0 := 0) X (ctX5_wears l D ad dA h6 x1 x2 r8 h9 e7) (lw_V q1780 q1782 qs105 q122 q1783) cyX5_wears rfl rfl rfl ⟨(Nat.le_of_ble_eq_true rfl), (Nat.le_of_ble_eq_true rfl)⟩ (Nat.le_of_ble_eq_true rfl) dX5_tried_52 ⟨Nat.le_of_ble_eq_true rfl, Nat.le_of_ble_eq_true rfl⟩ rfl ?_
        refine tm_istore X [(4, .int r8), (0, .ref (ad 300)), (1, .int x1), (2, .int x2), (3, .int x3)] dX5_tried_55 (Nat.le_of_ble_eq_true rfl) rfl ?_
        refine tm_aload_n X 1 dX5_tried_57 rfl rfl ?_
        refine tm_iload X 0 dX5_tried_58 rfl ?_
        refine tm_iload_n X 4 dX5_tried_60 rfl rfl ?_
        refine tm_cl2 (fun r11 h12 e10 => ?_)
        refine tm_callVi (As := [.int r8, .int x3]) (rest := []) (q0 := 0) X (ctX5_triedIs l D ad dA h9 r8 x3 r11 h12 e10) (lw_V q1820 q1822 qs113 q122 q1823) cyX5_triedIs rfl rfl rfl ⟨(Nat.le_of_ble_eq_true rfl), (Nat.le_of_ble_eq_true rfl)⟩ (Nat.le_of_ble_eq_true rfl) dX5_tried_61 ⟨Nat.le_of_ble_eq_true rfl, Nat.le_of_ble_eq_true rfl⟩ rfl ?_
        refine tm_istore X [(5, .int r11), (4, .int r8), (0, .ref (ad 300)), (1, .int x1), (2, .int x2), (3, .int x3)] dX5_tried_64 (Nat.le_of_ble_eq_true rfl) rfl ?_
        refine tm_aload_n X 2 dX5_tried_66 rfl rfl ?_
        refine tm_iconst X (0 : Int32) dX5_tried_67 (by decide) ?_
        refine tm_cl1 (fun h14 e13 => ?_)
        refine tm_callVv (As := [.int (0 : Int32)]) (rest := []) (q0 := 0) X (ctX5_takesBack l D ad dA h12 (0 : Int32) h14 e13) (lw_V q1824 q1826 qs114 q122 q1827) cyX5_takesBack rfl rfl rfl ⟨(Nat.le_of_ble_eq_true rfl), (Nat.le_of_ble_eq_true rfl)⟩ (Nat.le_of_ble_eq_true rfl) dX5_tried_68 ⟨Nat.le_of_ble_eq_true rfl, Nat.le_of_ble_eq_true rfl⟩ rfl ?_
        refine tm_iload X 0 dX5_tried_71 rfl ?_
        exact tm_retIH (wf := wM ad dA) hRet dX5_tried_73
      · skip
        refine tm_if_ne X 44 dX5_tried_14 rfl ?_ ?_
        · skip
          exact hk44
        · skip
          refine tm_iload_n X 3 dX5_tried_17 rfl rfl ?_
          refine tm_bipush X (100 : Int32) dX5_tried_18 (by decide) ?_
          refine tm_sipush X (147 : Int32) dX5_tried_20 (by decide) ?_
          refine tm_cl1 (fun r15 e16 => ?_)
          refine tm_callSi (As := [.int x3, .int (100 : Int32), .int (147 : Int32)]) (rest := []) X (ctX5_in l D dA x3 (100 : Int32) (147 : Int32) r15 e16) (lw_S q1366 q1367 q122 q1368) cyX5_in rfl ⟨(Nat.le_of_ble_eq_true rfl), (Nat.le_of_ble_eq_true rfl)⟩ (Nat.le_of_ble_eq_true rfl) dX5_tried_23 ⟨Nat.le_of_ble_eq_true rfl, Nat.le_of_ble_eq_true rfl⟩ rfl ?_
          refine tm_if_ne X 44 dX5_tried_26 rfl ?_ ?_
          · skip
            exact hk44
          · skip
            refine tm_iload_n X 3 dX5_tried_29 rfl rfl ?_
            refine tm_sipush X (200 : Int32) dX5_tried_30 (by decide) ?_
            refine tm_sipush X (247 : Int32) dX5_tried_33 (by decide) ?_
            refine tm_cl1 (fun r17 e18 => ?_)
            refine tm_callSi (As := [.int x3, .int (200 : Int32), .int (247 : Int32)]) (rest := []) X (ctX5_in l D dA x3 (200 : Int32) (247 : Int32) r17 e18) (lw_S q1366 q1367 q122 q1368) cyX5_in rfl ⟨(Nat.le_of_ble_eq_true rfl), (Nat.le_of_ble_eq_true rfl)⟩ (Nat.le_of_ble_eq_true rfl) dX5_tried_36 ⟨Nat.le_of_ble_eq_true rfl, Nat.le_of_ble_eq_true rfl⟩ rfl ?_
            refine tm_if_ne X 44 dX5_tried_39 rfl ?_ ?_
            · skip
              exact hk44
            · skip
              refine tm_lv X [] rfl ?_
              exact hk42
def mX5_even (h : Hp) (x1 : Int32) (x2 : Int32) (x3 : Int32) : Option (Int32 × Hp) :=
cl1 (mX5_isNights x1 x2) (fun r1 =>
nm (
some ((-1 : Int32), h)) (fun k18 =>
if r1 = 0 then (
k18) else (
cl1 (mX5_in x3 (1 : Int32) (48 : Int32)) (fun r3 =>
if r3 = 0 then (
k18) else (
cl1 (mX5_shelves h (0 : Int32)) (fun h6 =>
fx FU (fun _ _ _ => none) (fun k31 (x4_7 : Int32) (x5_8 : Int32) (h9 : Hp) =>
cl2 (mX5_marks h9 (0 : Int32) (0 : Int32) (0 : Int32)) (fun r11 h12 =>
nm (
cl2 (mX5_marks h12 (0 : Int32) (0 : Int32) (0 : Int32)) (fun r14 h15 =>
nm (fun (s16 : Int32) =>
cl1 (mX5_takesBack h15 (0 : Int32)) (fun h18 =>
nm (fun (s19 : Int32) =>
some (s19, h18)) (fun k120 =>
if s16 = 0 then (
k120 (-2 : Int32)) else (
k120 x4_7)))) (fun k101 =>
if r14 < x3 then (
k101 (0 : Int32)) else (
k101 (1 : Int32))))) (fun k85 =>
if x3 ≤ r11 then (
k85) else (
if x1 ≤ x4_7 then (
k85) else (
if x5_8 = (h12 300 4) then (
k85) else (
nm ((h12 300 4)) (fun v20 =>
cl2 (mX5_wears h12 (1 : Int32) x2) (fun r22 h23 =>
nm (((x4_7 + (h23 300 4)) - v20)) (fun v24 =>
k31 v24 v20 h23))))))))) (0 : Int32) (-1 : Int32) h6))))))
theorem cyX5_even : Callee yX5_even 3 := by unfold Callee; decide +kernel
set_option maxHeartbeats 4000000 in
theorem ctX5_even (l : Launch) (D : va_G) (ad : Nat → Nat) (dA : Nat → ClassId) (h : Hp) (x1 : Int32) (x2 : Int32) (x3 : Int32) (r : Int32) (h' : Hp) (hm : mX5_even h x1 x2 x3 = some (r, h')) : CT l yX5_even cX5_even 7 (some .int) D dA 7 169 0 0 (wM ad dA h) [.ref (ad 300), .int x1, .int x2, .int x3] (some (.int r)) (wM ad dA h') := by
  refine ct_open (by decide) (Nat.le_of_ble_eq_true rfl) ?_
  intro G X hI hZ hV hR
  have hRet := hI rfl r rfl
  refine (show TM G (r, h') (mX5_even h x1 x2 x3) (wM ad dA h) 0 0 0 [(0, .ref (ad 300)), (1, .int x1), (2, .int x2), (3, .int x3)] [] from ?_) hm
  clear hm hI hZ hV hR
  unfold mX5_even
  refine tm_iload_n X 1 dX5_even_0 rfl rfl ?_
  refine tm_iload_n X 2 dX5_even_1 rfl rfl ?_
  refine tm_cl1 (fun r1 e2 => ?_)
  refine tm_callSi (As := [.int x1, .int x2]) (rest := []) X (ctX5_isNights l D dA x1 x2 r1 e2) (lw_S q1777 q1778 q122 q1779) cyX5_isNights rfl ⟨(Nat.le_of_ble_eq_true rfl), (Nat.le_of_ble_eq_true rfl)⟩ (Nat.le_of_ble_eq_true rfl) dX5_even_2 ⟨Nat.le_of_ble_eq_true rfl, Nat.le_of_ble_eq_true rfl⟩ rfl ?_
  refine tm_let (fun k => TM G (r, h') k (wM ad dA h) 0 0 18 [] []) ?_ (fun k18 hk18 => ?_)
  · skip
    refine tm_iconst X (-1 : Int32) dX5_even_18 (by decide) ?_
    exact tm_retIH (wf := wM ad dA) hRet dX5_even_19
  · skip
    refine tm_if_eq X 18 dX5_even_5 rfl ?_ ?_
    · skip
      refine tm_lv X [] rfl ?_
      exact hk18
    · skip
      refine tm_iload_n X 3 dX5_even_8 rfl rfl ?_
      refine tm_iconst X (1 : Int32) dX5_even_9 (by decide) ?_
      refine tm_bipush X (48 : Int32) dX5_even_10 (by decide) ?_
      refine tm_cl1 (fun r3 e4 => ?_)
      refine tm_callSi (As := [.int x3, .int (1 : Int32), .int (48 : Int32)]) (rest := []) X (ctX5_in l D dA x3 (1 : Int32) (48 : Int32) r3 e4) (lw_S q1366 q1367 q122 q1368) cyX5_in rfl ⟨(Nat.le_of_ble_eq_true rfl), (Nat.le_of_ble_eq_true rfl)⟩ (Nat.le_of_ble_eq_true rfl) dX5_even_12 ⟨Nat.le_of_ble_eq_true rfl, Nat.le_of_ble_eq_true rfl⟩ rfl ?_
      refine tm_if_ne X 20 dX5_even_15 rfl ?_ ?_
      · skip
        refine tm_aload_n X 0 dX5_even_20 rfl rfl ?_
        refine tm_iconst X (0 : Int32) dX5_even_21 (by decide) ?_
        refine tm_cl1 (fun h6 e5 => ?_)
        refine tm_callVv (As := [.int (0 : Int32)]) (rest := []) (q0 := 0) X (ctX5_shelves l D ad dA h (0 : Int32) h6 e5) (lw_V q1816 q1818 qs112 q122 q1819) cyX5_shelves rfl rfl rfl ⟨(Nat.le_of_ble_eq_true rfl), (Nat.le_of_ble_eq_true rfl)⟩ (Nat.le_of_ble_eq_true rfl) dX5_even_22 ⟨Nat.le_of_ble_eq_true rfl, Nat.le_of_ble_eq_true rfl⟩ rfl ?_
        refine tm_iconst X (0 : Int32) dX5_even_25 (by decide) ?_
        refine tm_istore X [(4, .int (0 : Int32)), (0, .ref (ad 300)), (1, .int x1), (2, .int x2), (3, .int x3)] dX5_even_26 (Nat.le_of_ble_eq_true rfl) rfl ?_
        refine tm_iconst X (-1 : Int32) dX5_even_28 (by decide) ?_
        refine tm_istore X [(5, .int (-1 : Int32)), (4, .int (0 : Int32)), (0, .ref (ad 300)), (1, .int x1), (2, .int x2), (3, .int x3)] dX5_even_29 (Nat.le_of_ble_eq_true rfl) rfl ?_
        refine tm_lv X [2, 3, 4, 5, 1, 0] rfl ?_
        refine fx_P (fun (k : Int32 → Int32 → Hp → Option (Int32 × Hp)) => ∀ (x4_7 : Int32) (x5_8 : Int32) (h9 : Hp), TM G (r, h') (k x4_7 x5_8 h9) (wM ad dA h9) 0 0 31 [(0, .ref (ad 300)), (1, .int x1), (2, .int x2), (3, .int x3), (4, .int x4_7), (5, .int x5_8)] []) (fun _ _ _ => tm_none) (fun k31 hk31 x4_7 x5_8 h9 => ?_) FU (0 : Int32) (-1 : Int32) h6
        refine tm_aload_n X 0 dX5_even_31 rfl rfl ?_
        refine tm_iconst X (0 : Int32) dX5_even_32 (by decide) ?_
        refine tm_iconst X (0 : Int32) dX5_even_33 (by decide) ?_
        refine tm_iconst X (0 : Int32) dX5_even_34 (by decide) ?_
        refine tm_cl2 (fun r11 h12 e10 => ?_)
        refine tm_callVi (As := [.int (0 : Int32), .int (0 : Int32), .int (0 : Int32)]) (rest := []) (q0 := 0) X (ctX5_marks l D ad dA h9 (0 : Int32) (0 : Int32) (0 : Int32) r11 h12 e10) (lw_V q1542 q1544 qs79 q122 q1545) cyX5_marks rfl rfl rfl ⟨(Nat.le_of_ble_eq_true rfl), (Nat.le_of_ble_eq_true rfl)⟩ (Nat.le_of_ble_eq_true rfl) dX5_even_35 ⟨Nat.le_of_ble_eq_true rfl, Nat.le_of_ble_eq_true rfl⟩ rfl ?_
        refine tm_iload_n X 3 dX5_even_38 rfl rfl ?_
        refine tm_let (fun k => TM G (r, h') k (wM ad dA h12) 0 0 85 [(0, .ref (ad 300)), (3, .int x3), (4, .int x4_7)] []) ?_ (fun k85 hk85 => ?_)
        · skip
          refine tm_aload_n X 0 dX5_even_85 rfl rfl ?_
          refine tm_iconst X (0 : Int32) dX5_even_86 (by decide) ?_
          refine tm_iconst X (0 : Int32) dX5_even_87 (by decide) ?_
          refine tm_iconst X (0 : Int32) dX5_even_88 (by decide) ?_
          refine tm_cl2 (fun r14 h15 e13 => ?_)
          refine tm_callVi (As := [.int (0 : Int32), .int (0 : Int32), .int (0 : Int32)]) (rest := []) (q0 := 0) X (ctX5_marks l D ad dA h12 (0 : Int32) (0 : Int32) (0 : Int32) r14 h15 e13) (lw_V q1542 q1544 qs79 q122 q1545) cyX5_marks rfl rfl rfl ⟨(Nat.le_of_ble_eq_true rfl), (Nat.le_of_ble_eq_true rfl)⟩ (Nat.le_of_ble_eq_true rfl) dX5_even_89 ⟨Nat.le_of_ble_eq_true rfl, Nat.le_of_ble_eq_true rfl⟩ rfl ?_
          refine tm_iload_n X 1 dX5_even_92 rfl rfl ?_
          refine tm_let (fun k => ∀ (s16 : Int32), TM G (r, h') (k s16) (wM ad dA h15) 0 0 101 [(0, .ref (ad 300)), (4, .int x4_7)] [.int s16]) ?_ (fun k101 hk101 => ?_)
          · intro s16
            refine tm_istore X [(6, .int s16), (0, .ref (ad 300)), (4, .int x4_7)] dX5_even_101 (Nat.le_of_ble_eq_true rfl) rfl ?_
            refine tm_aload_n X 1 dX5_even_103 rfl rfl ?_
            refine tm_iconst X (0 : Int32) dX5_even_104 (by decide) ?_
            refine tm_cl1 (fun h18 e17 => ?_)
            refine tm_callVv (As := [.int (0 : Int32)]) (rest := []) (q0 := 0) X (ctX5_takesBack l D ad dA h15 (0 : Int32) h18 e17) (lw_V q1824 q1826 qs114 q122 q1827) cyX5_takesBack rfl rfl rfl ⟨(Nat.le_of_ble_eq_true rfl), (Nat.le_of_ble_eq_true rfl)⟩ (Nat.le_of_ble_eq_true rfl) dX5_even_105 ⟨Nat.le_of_ble_eq_true rfl, Nat.le_of_ble_eq_true rfl⟩ rfl ?_
            refine tm_iload X 0 dX5_even_108 rfl ?_
            refine tm_let (fun k => ∀ (s19 : Int32), TM G (r, h') (k s19) (wM ad dA h18) 0 0 120 [] [.int s19]) ?_ (fun k120 hk120 => ?_)
            · intro s19
              exact tm_retIH (wf := wM ad dA) hRet dX5_even_120
            · skip
              refine tm_if_eq X 118 dX5_even_110 rfl ?_ ?_
              · skip
                refine tm_bipush X (-2 : Int32) dX5_even_118 (by decide) ?_
                refine tm_lv X [] rfl ?_
                exact hk120 (-2 : Int32)
              · skip
                refine tm_iload X 2 dX5_even_113 rfl ?_
                refine tm_goto X 120 dX5_even_115 rfl ?_
                refine tm_lv X [] rfl ?_
                exact hk120 x4_7
          · skip
            refine tm_ic_lt X 100 dX5_even_93 rfl ?_ ?_
            · skip
              refine tm_iconst X (0 : Int32) dX5_even_100 (by decide) ?_
              refine tm_lv X [0, 2] rfl ?_
              exact hk101 (0 : Int32)
            · skip
              refine tm_iconst X (1 : Int32) dX5_even_96 (by decide) ?_
              refine tm_goto X 101 dX5_even_97 rfl ?_
              refine tm_lv X [0, 2] rfl ?_
              exact hk101 (1 : Int32)
        · skip
          refine tm_ic_ge X 85 dX5_even_39 rfl ?_ ?_
          · skip
            refine tm_lv X [0, 3, 4] rfl ?_
            exact hk85
          · skip
            refine tm_iload X 4 dX5_even_42 rfl ?_
            refine tm_iload_n X 1 dX5_even_44 rfl rfl ?_
            refine tm_ic_ge X 85 dX5_even_45 rfl ?_ ?_
            · skip
              refine tm_lv X [0, 3, 4] rfl ?_
              exact hk85
            · skip
              refine tm_iload X 5 dX5_even_48 rfl ?_
              refine tm_aload_n X 0 dX5_even_50 rfl rfl ?_
              refine tm_getI X (fiM_300_4 ad dA) in_X5 rfl (Nat.le_of_ble_eq_true rfl) q1191 rfl dX5_even_51 ?_
              refine tm_ic_eq X 85 dX5_even_54 rfl ?_ ?_
              · skip
                refine tm_lv X [0, 3, 4] rfl ?_
                exact hk85
              · skip
                refine tm_aload_n X 0 dX5_even_57 rfl rfl ?_
                refine tm_getI X (fiM_300_4 ad dA) in_X5 rfl (Nat.le_of_ble_eq_true rfl) q1191 rfl dX5_even_58 ?_
                refine tm_nmI (fun v20 => ?_)
                refine tm_istore X [(5, .int v20), (0, .ref (ad 300)), (1, .int x1), (2, .int x2), (3, .int x3), (4, .int x4_7)] dX5_even_61 (Nat.le_of_ble_eq_true rfl) rfl ?_
                refine tm_aload_n X 1 dX5_even_63 rfl rfl ?_
                refine tm_iconst X (1 : Int32) dX5_even_64 (by decide) ?_
                refine tm_iload_n X 3 dX5_even_65 rfl rfl ?_
                refine tm_cl2 (fun r22 h23 e21 => ?_)
                refine tm_callVi (As := [.int (1 : Int32), .int x2]) (rest := []) (q0 := 0) X (ctX5_wears l D ad dA h12 (1 : Int32) x2 r22 h23 e21) (lw_V q1780 q1782 qs105 q122 q1783) cyX5_wears rfl rfl rfl ⟨(Nat.le_of_ble_eq_true rfl), (Nat.le_of_ble_eq_true rfl)⟩ (Nat.le_of_ble_eq_true rfl) dX5_even_66 ⟨Nat.le_of_ble_eq_true rfl, Nat.le_of_ble_eq_true rfl⟩ rfl ?_
                refine tm_pop X dX5_even_69 rfl ?_
                refine tm_iload X 5 dX5_even_70 rfl ?_
                refine tm_aload_n X 1 dX5_even_72 rfl rfl ?_
                refine tm_getI X (fiM_300_4 ad dA) in_X5 rfl (Nat.le_of_ble_eq_true rfl) q1191 rfl dX5_even_73 ?_
                refine tm_iadd X dX5_even_76 ?_
                refine tm_iload X 0 dX5_even_77 rfl ?_
                refine tm_isub X dX5_even_79 ?_
                refine tm_nmI (fun v24 => ?_)
                refine tm_istore X [(4, .int v24), (5, .int v20), (0, .ref (ad 300)), (1, .int x1), (2, .int x2), (3, .int x3)] dX5_even_80 (Nat.le_of_ble_eq_true rfl) rfl ?_
                refine tm_goto X 31 dX5_even_82 rfl ?_
                refine tm_lv X [2, 3, 4, 5, 0, 1] rfl ?_
                exact hk31 v24 v20 h23
      · skip
        refine tm_lv X [] rfl ?_
        exact hk18
def mX5_seed (h : Hp) (x1 : Int32) : Option (Int32 × Hp) :=
cl1 (mX5_in x1 (0 : Int32) (65535 : Int32)) (fun r1 =>
if r1 = 0 then (
bz (0 : Int32) (some ((0 : Int32), h))) else (
nm (u2 h 300 3 x1) (fun h3 =>
bz (1 : Int32) (some ((1 : Int32), h3)))))
theorem cyX5_seed : Callee yX5_seed 1 := by unfold Callee; decide +kernel
set_option maxHeartbeats 4000000 in
theorem ctX5_seed (l : Launch) (D : va_G) (ad : Nat → Nat) (dA : Nat → ClassId) (h : Hp) (x1 : Int32) (r : Int32) (h' : Hp) (hm : mX5_seed h x1 = some (r, h')) : CT l yX5_seed cX5_seed 2 (some .boolean) D dA 1 22 0 0 (wM ad dA h) [.ref (ad 300), .int x1] (some (.int r)) (wM ad dA h') := by
  refine ct_open (by decide) (Nat.le_of_ble_eq_true rfl) ?_
  intro G X hI hZ hV hR
  have hRet := fun hv => hZ rfl r hv rfl
  refine (show TM G (r, h') (mX5_seed h x1) (wM ad dA h) 0 0 0 [(0, .ref (ad 300)), (1, .int x1)] [] from ?_) hm
  clear hm hI hZ hV hR
  unfold mX5_seed
  refine tm_iload_n X 1 dX5_seed_0 rfl rfl ?_
  refine tm_iconst X (0 : Int32) dX5_seed_1 (by decide) ?_
  refine tm_ldcw X (65535 : Int32) q1836 dX5_seed_2 ?_
  refine tm_cl1 (fun r1 e2 => ?_)
  refine tm_callSi (As := [.int x1, .int (0 : Int32), .int (65535 : Int32)]) (rest := []) X (ctX5_in l D dA x1 (0 : Int32) (65535 : Int32) r1 e2) (lw_S q1366 q1367 q122 q1368) cyX5_in rfl ⟨(Nat.le_of_ble_eq_true rfl), (Nat.le_of_ble_eq_true rfl)⟩ (Nat.le_of_ble_eq_true rfl) dX5_seed_5 ⟨Nat.le_of_ble_eq_true rfl, Nat.le_of_ble_eq_true rfl⟩ rfl ?_
  refine tm_if_ne X 13 dX5_seed_8 rfl ?_ ?_
  · skip
    refine tm_aload_n X 0 dX5_seed_13 rfl rfl ?_
    refine tm_iload_n X 1 dX5_seed_14 rfl rfl ?_
    refine tm_putI X (fiM_300_3 ad dA) in_X5 rfl (Nat.le_of_ble_eq_true rfl) tyX5 tyX5_ok nmX5 rfl rfl q1190 rfl dX5_seed_15 (fun h3 => ?_)
    refine tm_iconst X (1 : Int32) dX5_seed_18 (by decide) ?_
    exact tm_retZH (wf := wM ad dA) hRet dX5_seed_19
  · skip
    refine tm_iconst X (0 : Int32) dX5_seed_11 (by decide) ?_
    exact tm_retZH (wf := wM ad dA) hRet dX5_seed_12
def mX5_keep (h : Hp)  : Option (Int32 × Hp) :=
cl1 (mX5_shelves h (100 : Int32)) (fun h2 =>
nm (u2 h2 300 56 (1 : Int32)) (fun h3 =>
some ((h3 300 4), h3)))
theorem cyX5_keep : Callee yX5_keep 0 := by unfold Callee; decide +kernel
set_option maxHeartbeats 4000000 in
theorem ctX5_keep (l : Launch) (D : va_G) (ad : Nat → Nat) (dA : Nat → ClassId) (h : Hp)  (r : Int32) (h' : Hp) (hm : mX5_keep h = some (r, h')) : CT l yX5_keep cX5_keep 1 (some .int) D dA 1 22 0 0 (wM ad dA h) [.ref (ad 300)] (some (.int r)) (wM ad dA h') := by
  refine ct_open (by decide) (Nat.le_of_ble_eq_true rfl) ?_
  intro G X hI hZ hV hR
  have hRet := hI rfl r rfl
  refine (show TM G (r, h') (mX5_keep h) (wM ad dA h) 0 0 0 [(0, .ref (ad 300))] [] from ?_) hm
  clear hm hI hZ hV hR
  unfold mX5_keep
  refine tm_aload_n X 0 dX5_keep_0 rfl rfl ?_
  refine tm_bipush X (100 : Int32) dX5_keep_1 (by decide) ?_
  refine tm_cl1 (fun h2 e1 => ?_)
  refine tm_callVv (As := [.int (100 : Int32)]) (rest := []) (q0 := 0) X (ctX5_shelves l D ad dA h (100 : Int32) h2 e1) (lw_V q1816 q1818 qs112 q122 q1819) cyX5_shelves rfl rfl rfl ⟨(Nat.le_of_ble_eq_true rfl), (Nat.le_of_ble_eq_true rfl)⟩ (Nat.le_of_ble_eq_true rfl) dX5_keep_3 ⟨Nat.le_of_ble_eq_true rfl, Nat.le_of_ble_eq_true rfl⟩ rfl ?_
  refine tm_aload_n X 0 dX5_keep_6 rfl rfl ?_
  refine tm_iconst X (1 : Int32) dX5_keep_7 (by decide) ?_
  refine tm_putZ X (fiM_300_56 ad dA) in_X5 rfl (Nat.le_of_ble_eq_true rfl) tyX5 tyX5_ok nmX5 rfl rfl rfl rfl q1243 rfl dX5_keep_8 (fun h3 => ?_)
  refine tm_aload_n X 0 dX5_keep_11 rfl rfl ?_
  refine tm_getI X (fiM_300_4 ad dA) in_X5 rfl (Nat.le_of_ble_eq_true rfl) q1191 rfl dX5_keep_12 ?_
  exact tm_retIH (wf := wM ad dA) hRet dX5_keep_15
def mX5_undo (h : Hp)  : Option (Int32 × Hp) :=
nm (fun (h1 : Hp) =>
bz (h1 300 56) (some ((h1 300 56), h1))) (fun k13 =>
if (h 300 56) = 0 then (
k13 h) else (
cl1 (mX5_takesBack h (100 : Int32)) (fun h3 =>
k13 h3)))
theorem cyX5_undo : Callee yX5_undo 0 := by unfold Callee; decide +kernel
set_option maxHeartbeats 4000000 in
theorem ctX5_undo (l : Launch) (D : va_G) (ad : Nat → Nat) (dA : Nat → ClassId) (h : Hp)  (r : Int32) (h' : Hp) (hm : mX5_undo h = some (r, h')) : CT l yX5_undo cX5_undo 1 (some .boolean) D dA 1 22 0 0 (wM ad dA h) [.ref (ad 300)] (some (.int r)) (wM ad dA h') := by
  refine ct_open (by decide) (Nat.le_of_ble_eq_true rfl) ?_
  intro G X hI hZ hV hR
  have hRet := fun hv => hZ rfl r hv rfl
  refine (show TM G (r, h') (mX5_undo h) (wM ad dA h) 0 0 0 [(0, .ref (ad 300))] [] from ?_) hm
  clear hm hI hZ hV hR
  unfold mX5_undo
  refine tm_aload_n X 0 dX5_undo_0 rfl rfl ?_
  refine tm_getI X (fiM_300_56 ad dA) in_X5 rfl (Nat.le_of_ble_eq_true rfl) q1243 rfl dX5_undo_1 ?_
  refine tm_let (fun k => ∀ (h1 : Hp), TM G (r, h') (k h1) (wM ad dA h1) 0 0 13 [(0, .ref (ad 300))] []) ?_ (fun k13 hk13 => ?_)
  · intro h1
    refine tm_aload_n X 0 dX5_undo_13 rfl rfl ?_
    refine tm_getI X (fiM_300_56 ad dA) in_X5 rfl (Nat.le_of_ble_eq_true rfl) q1243 rfl dX5_undo_14 ?_
    exact tm_retZH (wf := wM ad dA) hRet dX5_undo_17
  · skip
    refine tm_if_eq X 13 dX5_undo_4 rfl ?_ ?_
    · skip
      exact hk13 h
    · skip
      refine tm_aload_n X 0 dX5_undo_7 rfl rfl ?_
      refine tm_bipush X (100 : Int32) dX5_undo_8 (by decide) ?_
      refine tm_cl1 (fun h3 e2 => ?_)
      refine tm_callVv (As := [.int (100 : Int32)]) (rest := []) (q0 := 0) X (ctX5_takesBack l D ad dA h (100 : Int32) h3 e2) (lw_V q1824 q1826 qs114 q122 q1827) cyX5_takesBack rfl rfl rfl ⟨(Nat.le_of_ble_eq_true rfl), (Nat.le_of_ble_eq_true rfl)⟩ (Nat.le_of_ble_eq_true rfl) dX5_undo_10 ⟨Nat.le_of_ble_eq_true rfl, Nat.le_of_ble_eq_true rfl⟩ rfl ?_
      exact hk13 h3
def mX5_check (h : Hp) (x1 : Int32) : Option (Int32 × Hp) :=
cl1 (mX5_in x1 (0 : Int32) (16 : Int32)) (fun r1 =>
nm (
some ((-2 : Int32), h)) (fun k18 =>
if r1 = 0 then (
k18) else (
if x1 ≤ (h 300 6) then (
nm ((x1 - (1 : Int32))) (fun v3 =>
fx FU (fun _ _ => none) (fun k27 (x2_4 : Int32) (x3_5 : Int32) =>
if x3_5 < 0 then (
nm (u2 h 300 6 (0 : Int32)) (fun h6 =>
some (x2_4, h6))) else (
cl1 (mX5_octet h x3_5) (fun r8 =>
nm (fun (s9 : Int32) =>
nm (fun (x2_10 : Int32) =>
k27 x2_10 (x3_5 + (-1 : Int32))) (fun k63 =>
if r8 = s9 then (
k63 x2_4) else (
k63 x3_5))) (fun k58 =>
if (8 : Int32) ≤ x3_5 then (
cl1 (mX5_lowerAt h (x3_5 - (8 : Int32))) (fun r12 =>
k58 r12)) else (
cl1 (mX5_upperAt h x3_5) (fun r14 =>
k58 r14)))))) (-1 : Int32) v3)) else (
k18))))
theorem cyX5_check : Callee yX5_check 1 := by unfold Callee; decide +kernel
set_option maxHeartbeats 4000000 in
theorem ctX5_check (l : Launch) (D : va_G) (ad : Nat → Nat) (dA : Nat → ClassId) (h : Hp) (x1 : Int32) (r : Int32) (h' : Hp) (hm : mX5_check h x1 = some (r, h')) : CT l yX5_check cX5_check 4 (some .int) D dA 1 22 0 0 (wM ad dA h) [.ref (ad 300), .int x1] (some (.int r)) (wM ad dA h') := by
  refine ct_open (by decide) (Nat.le_of_ble_eq_true rfl) ?_
  intro G X hI hZ hV hR
  have hRet := hI rfl r rfl
  refine (show TM G (r, h') (mX5_check h x1) (wM ad dA h) 0 0 0 [(0, .ref (ad 300)), (1, .int x1)] [] from ?_) hm
  clear hm hI hZ hV hR
  unfold mX5_check
  refine tm_iload_n X 1 dX5_check_0 rfl rfl ?_
  refine tm_iconst X (0 : Int32) dX5_check_1 (by decide) ?_
  refine tm_bipush X (16 : Int32) dX5_check_2 (by decide) ?_
  refine tm_cl1 (fun r1 e2 => ?_)
  refine tm_callSi (As := [.int x1, .int (0 : Int32), .int (16 : Int32)]) (rest := []) X (ctX5_in l D dA x1 (0 : Int32) (16 : Int32) r1 e2) (lw_S q1366 q1367 q122 q1368) cyX5_in rfl ⟨(Nat.le_of_ble_eq_true rfl), (Nat.le_of_ble_eq_true rfl)⟩ (Nat.le_of_ble_eq_true rfl) dX5_check_4 ⟨Nat.le_of_ble_eq_true rfl, Nat.le_of_ble_eq_true rfl⟩ rfl ?_
  refine tm_let (fun k => TM G (r, h') k (wM ad dA h) 0 0 18 [] []) ?_ (fun k18 hk18 => ?_)
  · skip
    refine tm_bipush X (-2 : Int32) dX5_check_18 (by decide) ?_
    exact tm_retIH (wf := wM ad dA) hRet dX5_check_20
  · skip
    refine tm_if_eq X 18 dX5_check_7 rfl ?_ ?_
    · skip
      refine tm_lv X [] rfl ?_
      exact hk18
    · skip
      refine tm_iload_n X 1 dX5_check_10 rfl rfl ?_
      refine tm_aload_n X 0 dX5_check_11 rfl rfl ?_
      refine tm_getI X (fiM_300_6 ad dA) in_X5 rfl (Nat.le_of_ble_eq_true rfl) q1193 rfl dX5_check_12 ?_
      refine tm_ic_le X 21 dX5_check_15 rfl ?_ ?_
      · skip
        refine tm_iconst X (-1 : Int32) dX5_check_21 (by decide) ?_
        refine tm_istore_n X [(2, .int (-1 : Int32)), (0, .ref (ad 300)), (1, .int x1)] dX5_check_22 rfl (Nat.le_of_ble_eq_true rfl) rfl ?_
        refine tm_iload_n X 2 dX5_check_23 rfl rfl ?_
        refine tm_iconst X (1 : Int32) dX5_check_24 (by decide) ?_
        refine tm_isub X dX5_check_25 ?_
        refine tm_nmI (fun v3 => ?_)
        refine tm_istore_n X [(3, .int v3), (2, .int (-1 : Int32)), (0, .ref (ad 300)), (1, .int x1)] dX5_check_26 rfl (Nat.le_of_ble_eq_true rfl) rfl ?_
        refine tm_lv X [2, 1, 0] rfl ?_
        refine fx_P (fun (k : Int32 → Int32 → Option (Int32 × Hp)) => ∀ (x2_4 : Int32) (x3_5 : Int32), TM G (r, h') (k x2_4 x3_5) (wM ad dA h) 0 0 27 [(0, .ref (ad 300)), (2, .int x2_4), (3, .int x3_5)] []) (fun _ _ => tm_none) (fun k27 hk27 x2_4 x3_5 => ?_) FU (-1 : Int32) v3
        refine tm_iload_n X 2 dX5_check_27 rfl rfl ?_
        refine tm_if_lt X 69 dX5_check_28 rfl ?_ ?_
        · skip
          refine tm_aload_n X 0 dX5_check_69 rfl rfl ?_
          refine tm_iconst X (0 : Int32) dX5_check_70 (by decide) ?_
          refine tm_putI X (fiM_300_6 ad dA) in_X5 rfl (Nat.le_of_ble_eq_true rfl) tyX5 tyX5_ok nmX5 rfl rfl q1193 rfl dX5_check_71 (fun h6 => ?_)
          refine tm_iload_n X 1 dX5_check_74 rfl rfl ?_
          exact tm_retIH (wf := wM ad dA) hRet dX5_check_75
        · skip
          refine tm_aload_n X 0 dX5_check_31 rfl rfl ?_
          refine tm_iload_n X 2 dX5_check_32 rfl rfl ?_
          refine tm_cl1 (fun r8 e7 => ?_)
          refine tm_callVi (As := [.int x3_5]) (rest := []) (q0 := 0) X (ctX5_octet l D ad dA h x3_5 r8 e7) (lw_V q1607 q1609 qs87 q122 q1610) cyX5_octet rfl rfl rfl ⟨(Nat.le_of_ble_eq_true rfl), (Nat.le_of_ble_eq_true rfl)⟩ (Nat.le_of_ble_eq_true rfl) dX5_check_33 ⟨Nat.le_of_ble_eq_true rfl, Nat.le_of_ble_eq_true rfl⟩ rfl ?_
          refine tm_iload_n X 2 dX5_check_36 rfl rfl ?_
          refine tm_bipush X (8 : Int32) dX5_check_37 (by decide) ?_
          refine tm_let (fun k => ∀ (s9 : Int32), TM G (r, h') (k s9) (wM ad dA h) 0 0 58 [(0, .ref (ad 300)), (2, .int x2_4), (3, .int x3_5)] [.int s9, .int r8]) ?_ (fun k58 hk58 => ?_)
          · intro s9
            refine tm_let (fun k => ∀ (x2_10 : Int32), TM G (r, h') (k x2_10) (wM ad dA h) 0 0 63 [(0, .ref (ad 300)), (2, .int x2_10), (3, .int x3_5)] []) ?_ (fun k63 hk63 => ?_)
            · intro x2_10
              refine tm_iinc (v := (-1 : Int32)) X 2 [(3, .int (x3_5 + (-1 : Int32))), (0, .ref (ad 300)), (2, .int x2_10)] dX5_check_63 rfl (by decide) (Nat.le_of_ble_eq_true rfl) rfl ?_
              refine tm_goto X 27 dX5_check_66 rfl ?_
              refine tm_lv X [1, 2, 0] rfl ?_
              exact hk27 x2_10 (x3_5 + (-1 : Int32))
            · skip
              refine tm_ic_eq X 63 dX5_check_58 rfl ?_ ?_
              · skip
                exact hk63 x2_4
              · skip
                refine tm_iload_n X 2 dX5_check_61 rfl rfl ?_
                refine tm_istore_n X [(2, .int x3_5), (0, .ref (ad 300)), (3, .int x3_5)] dX5_check_62 rfl (Nat.le_of_ble_eq_true rfl) rfl ?_
                refine tm_lv X [1, 0, 2] rfl ?_
                exact hk63 x3_5
          · skip
            refine tm_ic_ge X 50 dX5_check_39 rfl ?_ ?_
            · skip
              refine tm_aload_n X 0 dX5_check_50 rfl rfl ?_
              refine tm_iload_n X 2 dX5_check_51 rfl rfl ?_
              refine tm_bipush X (8 : Int32) dX5_check_52 (by decide) ?_
              refine tm_isub X dX5_check_54 ?_
              refine tm_cl1 (fun r12 e11 => ?_)
              refine tm_callVi (As := [.int (x3_5 - (8 : Int32))]) (rest := [.int r8]) (q0 := 0) X (ctX5_lowerAt l D ad dA h (x3_5 - (8 : Int32)) r12 e11) (lw_V q1535 q1537 qs78 q122 q1538) cyX5_lowerAt rfl rfl rfl ⟨(Nat.le_of_ble_eq_true rfl), (Nat.le_of_ble_eq_true rfl)⟩ (Nat.le_of_ble_eq_true rfl) dX5_check_55 ⟨Nat.le_of_ble_eq_true rfl, Nat.le_of_ble_eq_true rfl⟩ rfl ?_
              exact hk58 r12
            · skip
              refine tm_aload_n X 0 dX5_check_42 rfl rfl ?_
              refine tm_iload_n X 2 dX5_check_43 rfl rfl ?_
              refine tm_cl1 (fun r14 e13 => ?_)
              refine tm_callVi (As := [.int x3_5]) (rest := [.int r8]) (q0 := 0) X (ctX5_upperAt l D ad dA h x3_5 r14 e13) (lw_V q1531 q1533 qs77 q122 q1534) cyX5_upperAt rfl rfl rfl ⟨(Nat.le_of_ble_eq_true rfl), (Nat.le_of_ble_eq_true rfl)⟩ (Nat.le_of_ble_eq_true rfl) dX5_check_44 ⟨Nat.le_of_ble_eq_true rfl, Nat.le_of_ble_eq_true rfl⟩ rfl ?_
              refine tm_goto X 58 dX5_check_47 rfl ?_
              exact hk58 r14
      · skip
        refine tm_lv X [] rfl ?_
        exact hk18
def mX5_offMany (h : Hp)  : Option (Int32) :=
fx FU (fun _ _ => none) (fun k4 (x1_1 : Int32) (x2_2 : Int32) =>
if (48 : Int32) ≤ x2_2 then (
some x1_1) else (
ck x2_2 48 (
nm (fun (x1_3 : Int32) =>
k4 x1_3 (x2_2 + (1 : Int32))) (fun k23 =>
if (h 202 x2_2.toNatClampNeg) = 0 then (
k23 x1_1) else (
nm ((x1_1 + (1 : Int32))) (fun v4 =>
k23 v4)))))) (0 : Int32) (0 : Int32)
theorem cyX5_offMany : Callee yX5_offMany 0 := by unfold Callee; decide +kernel
set_option maxHeartbeats 4000000 in
theorem ctX5_offMany (l : Launch) (D : va_G) (ad : Nat → Nat) (dA : Nat → ClassId) (h : Hp)  (r : Int32) (hm : mX5_offMany h = some r) : CT l yX5_offMany cX5_offMany 3 (some .int) D dA 0 0 0 0 (wM ad dA h) [.ref (ad 300)] (some (.int r)) (wM ad dA h) := by
  refine ct_open (by decide) (Nat.le_of_ble_eq_true rfl) ?_
  intro G X hI hZ hV hR
  have hRet := hI rfl r rfl
  refine (show TM G r (mX5_offMany h) (wM ad dA h) 0 0 0 [(0, .ref (ad 300))] [] from ?_) hm
  clear hm hI hZ hV hR
  unfold mX5_offMany
  refine tm_iconst X (0 : Int32) dX5_offMany_0 (by decide) ?_
  refine tm_istore_n X [(1, .int (0 : Int32)), (0, .ref (ad 300))] dX5_offMany_1 rfl (Nat.le_of_ble_eq_true rfl) rfl ?_
  refine tm_iconst X (0 : Int32) dX5_offMany_2 (by decide) ?_
  refine tm_istore_n X [(2, .int (0 : Int32)), (1, .int (0 : Int32)), (0, .ref (ad 300))] dX5_offMany_3 rfl (Nat.le_of_ble_eq_true rfl) rfl ?_
  refine tm_lv X [2, 1, 0] rfl ?_
  refine fx_P (fun (k : Int32 → Int32 → Option (Int32)) => ∀ (x1_1 : Int32) (x2_2 : Int32), TM G r (k x1_1 x2_2) (wM ad dA h) 0 0 4 [(0, .ref (ad 300)), (1, .int x1_1), (2, .int x2_2)] []) (fun _ _ => tm_none) (fun k4 hk4 x1_1 x2_2 => ?_) FU (0 : Int32) (0 : Int32)
  refine tm_iload_n X 2 dX5_offMany_4 rfl rfl ?_
  refine tm_bipush X (48 : Int32) dX5_offMany_5 (by decide) ?_
  refine tm_ic_ge X 29 dX5_offMany_7 rfl ?_ ?_
  · skip
    refine tm_iload_n X 1 dX5_offMany_29 rfl rfl ?_
    exact tm_retI hRet dX5_offMany_30
  · skip
    refine tm_aload_n X 0 dX5_offMany_10 rfl rfl ?_
    refine tm_getR X (frM_300_2 ad dA h) in_X5 rfl (Nat.le_of_ble_eq_true rfl) q1189 rfl dX5_offMany_11 ?_
    refine tm_iload_n X 2 dX5_offMany_14 rfl rfl ?_
    refine tm_baloadZ X (arM_202 ad dA) dX5_offMany_15 ?_
    refine tm_let (fun k => ∀ (x1_3 : Int32), TM G r (k x1_3) (wM ad dA h) 0 0 23 [(0, .ref (ad 300)), (1, .int x1_3), (2, .int x2_2)] []) ?_ (fun k23 hk23 => ?_)
    · intro x1_3
      refine tm_iinc (v := (1 : Int32)) X 2 [(2, .int (x2_2 + (1 : Int32))), (0, .ref (ad 300)), (1, .int x1_3)] dX5_offMany_23 rfl (by decide) (Nat.le_of_ble_eq_true rfl) rfl ?_
      refine tm_goto X 4 dX5_offMany_26 rfl ?_
      refine tm_lv X [1, 2, 0] rfl ?_
      exact hk4 x1_3 (x2_2 + (1 : Int32))
    · skip
      refine tm_if_eq X 23 dX5_offMany_16 rfl ?_ ?_
      · skip
        exact hk23 x1_1
      · skip
        refine tm_iload_n X 1 dX5_offMany_19 rfl rfl ?_
        refine tm_iconst X (1 : Int32) dX5_offMany_20 (by decide) ?_
        refine tm_iadd X dX5_offMany_21 ?_
        refine tm_nmI (fun v4 => ?_)
        refine tm_istore_n X [(1, .int v4), (0, .ref (ad 300)), (2, .int x2_2)] dX5_offMany_22 rfl (Nat.le_of_ble_eq_true rfl) rfl ?_
        refine tm_lv X [1, 0, 2] rfl ?_
        exact hk23 v4
def mX5_count (h : Hp) (x1 : Int32) : Option (Int32) :=
if x1 = (0 : Int32) then (
some (h 300 4)) else (
if x1 = (1 : Int32) then (
some (h 300 39)) else (
if x1 = (2 : Int32) then (
some (h 300 15)) else (
if x1 = (3 : Int32) then (
some (h 300 6)) else (
if x1 = (4 : Int32) then (
some (h 300 3)) else (
if x1 = (5 : Int32) then (
cl1 (mX5_offMany h) (fun r7 =>
some r7)) else (
if x1 = (6 : Int32) then (
some ((h 201 0) + (h 201 1))) else (
if x1 = (7 : Int32) then (
cl1 (mX5_opening h (0 : Int32) (0 : Int32)) (fun r11 =>
some r11)) else (
some (-1 : Int32)))))))))
theorem cyX5_count : Callee yX5_count 1 := by unfold Callee; decide +kernel
set_option maxHeartbeats 4000000 in
theorem ctX5_count (l : Launch) (D : va_G) (ad : Nat → Nat) (dA : Nat → ClassId) (h : Hp) (x1 : Int32) (r : Int32) (hm : mX5_count h x1 = some r) : CT l yX5_count cX5_count 2 (some .int) D dA 4 94 0 0 (wM ad dA h) [.ref (ad 300), .int x1] (some (.int r)) (wM ad dA h) := by
  refine ct_open (by decide) (Nat.le_of_ble_eq_true rfl) ?_
  intro G X hI hZ hV hR
  have hRet := hI rfl r rfl
  refine (show TM G r (mX5_count h x1) (wM ad dA h) 0 0 0 [(0, .ref (ad 300)), (1, .int x1)] [] from ?_) hm
  clear hm hI hZ hV hR
  unfold mX5_count
  refine tm_iload_n X 1 dX5_count_0 rfl rfl ?_
  refine tm_sw (j := 0) (0 : Int32) 48 X dX5_count_1 (by decide) (by decide) rfl rfl ?_ (fun hs1 => ?_)
  · skip
    refine tm_aload_n X 0 dX5_count_48 rfl rfl ?_
    refine tm_getI X (fiM_300_4 ad dA) in_X5 rfl (Nat.le_of_ble_eq_true rfl) q1191 rfl dX5_count_49 ?_
    exact tm_retI hRet dX5_count_52
  refine tm_sw (j := 1) (1 : Int32) 53 X dX5_count_1 (by decide) (by decide) rfl rfl ?_ (fun hs2 => ?_)
  · skip
    refine tm_aload_n X 0 dX5_count_53 rfl rfl ?_
    refine tm_getI X (fiM_300_39 ad dA) in_X5 rfl (Nat.le_of_ble_eq_true rfl) q1226 rfl dX5_count_54 ?_
    exact tm_retI hRet dX5_count_57
  refine tm_sw (j := 2) (2 : Int32) 58 X dX5_count_1 (by decide) (by decide) rfl rfl ?_ (fun hs3 => ?_)
  · skip
    refine tm_aload_n X 0 dX5_count_58 rfl rfl ?_
    refine tm_getI X (fiM_300_15 ad dA) in_X5 rfl (Nat.le_of_ble_eq_true rfl) q1202 rfl dX5_count_59 ?_
    exact tm_retI hRet dX5_count_62
  refine tm_sw (j := 3) (3 : Int32) 63 X dX5_count_1 (by decide) (by decide) rfl rfl ?_ (fun hs4 => ?_)
  · skip
    refine tm_aload_n X 0 dX5_count_63 rfl rfl ?_
    refine tm_getI X (fiM_300_6 ad dA) in_X5 rfl (Nat.le_of_ble_eq_true rfl) q1193 rfl dX5_count_64 ?_
    exact tm_retI hRet dX5_count_67
  refine tm_sw (j := 4) (4 : Int32) 68 X dX5_count_1 (by decide) (by decide) rfl rfl ?_ (fun hs5 => ?_)
  · skip
    refine tm_aload_n X 0 dX5_count_68 rfl rfl ?_
    refine tm_getI X (fiM_300_3 ad dA) in_X5 rfl (Nat.le_of_ble_eq_true rfl) q1190 rfl dX5_count_69 ?_
    exact tm_retI hRet dX5_count_72
  refine tm_sw (j := 5) (5 : Int32) 73 X dX5_count_1 (by decide) (by decide) rfl rfl ?_ (fun hs8 => ?_)
  · skip
    refine tm_aload_n X 0 dX5_count_73 rfl rfl ?_
    refine tm_cl1 (fun r7 e6 => ?_)
    refine tm_callVi (As := []) (rest := []) (q0 := 0) X (ctX5_offMany l D ad dA h r7 e6) (lw_V q1853 q1855 qs115 q122 q1856) cyX5_offMany rfl rfl rfl ⟨(Nat.le_of_ble_eq_true rfl), (Nat.le_of_ble_eq_true rfl)⟩ (Nat.le_of_ble_eq_true rfl) dX5_count_74 ⟨Nat.le_of_ble_eq_true rfl, Nat.le_of_ble_eq_true rfl⟩ rfl ?_
    exact tm_retI hRet dX5_count_77
  refine tm_sw (j := 6) (6 : Int32) 78 X dX5_count_1 (by decide) (by decide) rfl rfl ?_ (fun hs9 => ?_)
  · skip
    refine tm_aload_n X 0 dX5_count_78 rfl rfl ?_
    refine tm_getR X (frM_300_1 ad dA h) in_X5 rfl (Nat.le_of_ble_eq_true rfl) q1188 rfl dX5_count_79 ?_
    refine tm_iconst X (0 : Int32) dX5_count_82 (by decide) ?_
    refine tm_ialoadL (j := 0) X (arM_201 ad dA) (by unfold vp_in; decide) (by decide) dX5_count_83 ?_
    refine tm_aload_n X 0 dX5_count_84 rfl rfl ?_
    refine tm_getR X (frM_300_1 ad dA h) in_X5 rfl (Nat.le_of_ble_eq_true rfl) q1188 rfl dX5_count_85 ?_
    refine tm_iconst X (1 : Int32) dX5_count_88 (by decide) ?_
    refine tm_ialoadL (j := 1) X (arM_201 ad dA) (by unfold vp_in; decide) (by decide) dX5_count_89 ?_
    refine tm_iadd X dX5_count_90 ?_
    exact tm_retI hRet dX5_count_91
  refine tm_sw (j := 7) (7 : Int32) 92 X dX5_count_1 (by decide) (by decide) rfl rfl ?_ (fun hs12 => ?_)
  · skip
    refine tm_aload_n X 0 dX5_count_92 rfl rfl ?_
    refine tm_iconst X (0 : Int32) dX5_count_93 (by decide) ?_
    refine tm_iconst X (0 : Int32) dX5_count_94 (by decide) ?_
    refine tm_cl1 (fun r11 e10 => ?_)
    refine tm_callVi (As := [.int (0 : Int32), .int (0 : Int32)]) (rest := []) (q0 := 0) X (ctX5_opening l D ad dA h (0 : Int32) (0 : Int32) r11 e10) (lw_V q1520 q1522 qs75 q122 q1523) cyX5_opening rfl rfl rfl ⟨(Nat.le_of_ble_eq_true rfl), (Nat.le_of_ble_eq_true rfl)⟩ (Nat.le_of_ble_eq_true rfl) dX5_count_95 ⟨Nat.le_of_ble_eq_true rfl, Nat.le_of_ble_eq_true rfl⟩ rfl ?_
    exact tm_retI hRet dX5_count_98
  refine tm_swd 99 X dX5_count_1 (by have := ne_toInt hs1 (n := 0) (by decide); have := ne_toInt hs2 (n := 1) (by decide); have := ne_toInt hs3 (n := 2) (by decide); have := ne_toInt hs4 (n := 3) (by decide); have := ne_toInt hs5 (n := 4) (by decide); have := ne_toInt hs8 (n := 5) (by decide); have := ne_toInt hs9 (n := 6) (by decide); have := ne_toInt hs12 (n := 7) (by decide); omega) rfl ?_
  refine tm_iconst X (-1 : Int32) dX5_count_99 (by decide) ?_
  exact tm_retI hRet dX5_count_100
