set_option maxRecDepth 100000
def mJ1_canEncode (x0 : Int32) : Option (Int32) :=
nm (fun (s1 : Int32) =>
bz s1 (some s1)) (fun k16 =>
nm (
k16 (0 : Int32)) (fun k15 =>
if x0 < 0 then (
k15) else (
if (255 : Int32) < x0 then (
k15) else (
k16 (1 : Int32)))))
theorem cyJ1_canEncode : Callee yJ1_canEncode 1 := by unfold Callee; decide +kernel
set_option maxHeartbeats 4000000 in
theorem ctJ1_canEncode (l : Launch) (D : va_G) (dA : Nat → ClassId) (x0 : Int32) (r : Int32) (hm : mJ1_canEncode x0 = some r) : CT l yJ1_canEncode cJ1_canEncode 1 (some .boolean) D dA 0 0 0 0 [] [.int x0] (some (.int r)) [] := by
  refine ct_open (by decide) (Nat.le_of_ble_eq_true rfl) ?_
  intro G X hI hZ hV hR
  have hRet := fun hv => hZ rfl r hv rfl
  refine (show TM G r (mJ1_canEncode x0) [] 0 0 0 [(0, .int x0)] [] from ?_) hm
  clear hm hI hZ hV hR
  unfold mJ1_canEncode
  refine tm_iload_n X 0 dJ1_canEncode_0 rfl rfl ?_
  refine tm_let (fun k => ∀ (s1 : Int32), TM G r (k s1) [] 0 0 16 [] [.int s1]) ?_ (fun k16 hk16 => ?_)
  · intro s1
    exact tm_retZ hRet dJ1_canEncode_16
  · skip
    refine tm_let (fun k => TM G r k [] 0 0 15 [] []) ?_ (fun k15 hk15 => ?_)
    · skip
      refine tm_iconst X (0 : Int32) dJ1_canEncode_15 (by decide) ?_
      exact hk16 (0 : Int32)
    · skip
      refine tm_if_lt X 15 dJ1_canEncode_1 rfl ?_ ?_
      · skip
        refine tm_lv X [] rfl ?_
        exact hk15
      · skip
        refine tm_iload_n X 0 dJ1_canEncode_4 rfl rfl ?_
        refine tm_sipush X (255 : Int32) dJ1_canEncode_5 (by decide) ?_
        refine tm_ic_gt X 15 dJ1_canEncode_8 rfl ?_ ?_
        · skip
          refine tm_lv X [] rfl ?_
          exact hk15
        · skip
          refine tm_iconst X (1 : Int32) dJ1_canEncode_11 (by decide) ?_
          refine tm_goto X 16 dJ1_canEncode_12 rfl ?_
          refine tm_lv X [] rfl ?_
          exact hk16 (1 : Int32)
theorem cyJ0_coder : Callee yJ0_coder 0 := by unfold Callee; decide +kernel
theorem cyJ0_isLatin1 : Callee yJ0_isLatin1 0 := by unfold Callee; decide +kernel
theorem cyJ0_length : Callee yJ0_length 0 := by unfold Callee; decide +kernel
theorem ctJ0_coder_s0 (l : Launch) (D : va_G) (dA : Nat → ClassId) : CT l yJ0_coder cJ0_coder 1 (some .byte) D dA 0 0 0 0 [] [.ref (dA 10)] (some (.int 0)) [] := by
  refine ct_openT (by decide) (Nat.le_of_ble_eq_true rfl) rfl ?_
  intro G X hRet
  refine (show TM G () (some ()) [] 0 0 0 [(0, .ref (dA 10))] [] from ?_) rfl
  refine tm_csz X q396 rfl dJ0_coder_0 ?_
  refine (show TM G () (if (1 : Int32) = 0 then none else some ()) [] 0 0 3 [(0, .ref (dA 10))] [.int 1] from ?_)
  refine tm_if_eq X 13 dJ0_coder_3 rfl tm_none ?_
  refine tm_aload_n X 0 dJ0_coder_6 rfl rfl ?_
  refine tm_scoder (i := 0) X (by decide) q1872 rfl rfl dJ0_coder_7 ?_
  refine tm_goto X 14 dJ0_coder_10 rfl ?_
  exact fun _ => hRet _ _ dJ0_coder_14
theorem ctJ0_isLatin1_s0 (l : Launch) (D : va_G) (dA : Nat → ClassId) : CT l yJ0_isLatin1 cJ0_isLatin1 1 (some .boolean) D dA 0 0 0 0 [] [.ref (dA 10)] (some (.int 1)) [] := by
  refine ct_openT (by decide) (Nat.le_of_ble_eq_true rfl) rfl ?_
  intro G X hRet
  refine (show TM G () (some ()) [] 0 0 0 [(0, .ref (dA 10))] [] from ?_) rfl
  refine tm_csz X q396 rfl dJ0_isLatin1_0 ?_
  refine (show TM G () (if (1 : Int32) = 0 then none else (if (0 : Int32) = 0 then some () else none)) [] 0 0 3 [(0, .ref (dA 10))] [.int 1] from ?_)
  refine tm_if_eq X 17 dJ0_isLatin1_3 rfl tm_none ?_
  refine tm_aload_n X 0 dJ0_isLatin1_6 rfl rfl ?_
  refine tm_scoder (i := 0) X (by decide) q1872 rfl rfl dJ0_isLatin1_7 ?_
  refine tm_if_ne X 17 dJ0_isLatin1_10 rfl tm_none ?_
  refine tm_iconst X (1 : Int32) dJ0_isLatin1_13 (by decide) ?_
  refine tm_goto X 18 dJ0_isLatin1_14 rfl ?_
  exact fun _ => hRet _ _ dJ0_isLatin1_18
theorem ctJ0_length_s0 (l : Launch) (D : va_G) (dA : Nat → ClassId) : CT l yJ0_length cJ0_length 1 (some .int) D dA 1 20 0 0 [] [.ref (dA 10)] (some (.int 3)) [] := by
  refine ct_openT (by decide) (Nat.le_of_ble_eq_true rfl) rfl ?_
  intro G X hRet
  refine (show TM G () (some ()) [] 0 0 0 [(0, .ref (dA 10))] [] from ?_) rfl
  refine tm_aload_n X 0 dJ0_length_0 rfl rfl ?_
  refine tm_svalue (i := 0) X (dA 20) (by decide) q1873 rfl rfl rfl dJ0_length_1 ?_
  refine tm_slen (i := 0) (v := (3 : Int32)) X (by decide) rfl (by decide) dJ0_length_4 ?_
  refine tm_aload_n X 0 dJ0_length_5 rfl rfl ?_
  refine tm_callVSi (i := 0) (As := []) (rest := [.int 3]) X (by decide) rfl rfl (ctJ0_coder_s0 l D dA) (lw_V q402 q403 q404 q124 q405) cyJ0_coder rfl ⟨Nat.le_of_ble_eq_true rfl, Nat.le_of_ble_eq_true rfl⟩ (Nat.le_of_ble_eq_true rfl) dJ0_length_6 ⟨Nat.le_refl 0, Nat.le_refl 0⟩ rfl ?_
  refine tm_ishr X dJ0_length_9 ?_
  exact fun _ => hRet _ _ dJ0_length_10
def mJ1_indexOfChar_s0 (x1 : Int32) (x2 : Int32) (x3 : Int32) : Option (Int32) :=
nm ((x1.toInt8.toInt32)) (fun v1 =>
fx FU (fun _ => none) (fun k7 (x5_2 : Int32) =>
if x3 ≤ x5_2 then (
some (-1 : Int32)) else (
ck x5_2 3 (
if (sb 0 x5_2.toNatClampNeg) = v1 then (
some x5_2) else (
k7 (x5_2 + (1 : Int32)))))) x2)
theorem cyJ1_indexOfChar : Callee yJ1_indexOfChar 4 := by unfold Callee; decide +kernel
set_option maxHeartbeats 4000000 in
theorem ctJ1_indexOfChar_s0 (l : Launch) (D : va_G) (dA : Nat → ClassId) (x1 : Int32) (x2 : Int32) (x3 : Int32) (r : Int32) (hm : mJ1_indexOfChar_s0 x1 x2 x3 = some r) : CT l yJ1_indexOfChar cJ1_indexOfChar 6 (some .int) D dA 0 0 0 0 [] [.ref (dA 20), .int x1, .int x2, .int x3] (some (.int r)) [] := by
  refine ct_open (by decide) (Nat.le_of_ble_eq_true rfl) ?_
  intro G X hI hZ hV hR
  have hRet := hI rfl r rfl
  refine (show TM G r (mJ1_indexOfChar_s0 x1 x2 x3) [] 0 0 0 [(0, .ref (dA 20)), (1, .int x1), (2, .int x2), (3, .int x3)] [] from ?_) hm
  clear hm hI hZ hV hR
  unfold mJ1_indexOfChar_s0
  refine tm_iload_n X 1 dJ1_indexOfChar_0 rfl rfl ?_
  refine tm_i2b X dJ1_indexOfChar_1 ?_
  refine tm_nmI (fun v1 => ?_)
  refine tm_istore X [(4, .int v1), (0, .ref (dA 20)), (1, .int x1), (2, .int x2), (3, .int x3)] dJ1_indexOfChar_2 (Nat.le_of_ble_eq_true rfl) rfl ?_
  refine tm_iload_n X 3 dJ1_indexOfChar_4 rfl rfl ?_
  refine tm_istore X [(5, .int x2), (4, .int v1), (0, .ref (dA 20)), (1, .int x1), (2, .int x2), (3, .int x3)] dJ1_indexOfChar_5 (Nat.le_of_ble_eq_true rfl) rfl ?_
  refine tm_lv X [2, 5, 1, 0] rfl ?_
  refine fx_P (fun (k : Int32 → Option (Int32)) => ∀ (x5_2 : Int32), TM G r (k x5_2) [] 0 0 7 [(0, .ref (dA 20)), (3, .int x3), (4, .int v1), (5, .int x5_2)] []) (fun _ => tm_none) (fun k7 hk7 x5_2 => ?_) FU x2
  refine tm_iload X 3 dJ1_indexOfChar_7 rfl ?_
  refine tm_iload_n X 1 dJ1_indexOfChar_9 rfl rfl ?_
  refine tm_ic_ge X 31 dJ1_indexOfChar_10 rfl ?_ ?_
  · skip
    refine tm_iconst X (-1 : Int32) dJ1_indexOfChar_31 (by decide) ?_
    exact tm_retI hRet dJ1_indexOfChar_32
  · skip
    refine tm_aload_n X 0 dJ1_indexOfChar_13 rfl rfl ?_
    refine tm_iload X 3 dJ1_indexOfChar_14 rfl ?_
    refine tm_sbald (i := 0) X (by decide) rfl rfl dJ1_indexOfChar_16 ?_
    refine tm_iload X 2 dJ1_indexOfChar_17 rfl ?_
    refine tm_ic_ne X 25 dJ1_indexOfChar_19 rfl ?_ ?_
    · skip
      refine tm_iinc (v := (1 : Int32)) X 3 [(5, .int (x5_2 + (1 : Int32))), (0, .ref (dA 20)), (3, .int x3), (4, .int v1)] dJ1_indexOfChar_25 rfl (by decide) (Nat.le_of_ble_eq_true rfl) rfl ?_
      refine tm_goto X 7 dJ1_indexOfChar_28 rfl ?_
      refine tm_lv X [1, 2, 3, 0] rfl ?_
      exact hk7 (x5_2 + (1 : Int32))
    · skip
      refine tm_iload X 3 dJ1_indexOfChar_22 rfl ?_
      exact tm_retI hRet dJ1_indexOfChar_24
def mJ1_indexOf_s0 (x1 : Int32) (x2 : Int32) (x3 : Int32) : Option (Int32) :=
cl1 (mJ1_canEncode x1) (fun r1 =>
if r1 = 0 then (
some (-1 : Int32)) else (
nm ((jmax x2 (0 : Int32))) (fun v3 =>
nm ((jmin x3 (3 : Int32))) (fun v4 =>
if v3 < v4 then (
cl1 (mJ1_indexOfChar_s0 x1 v3 v4) (fun r5 =>
some r5)) else (
some (-1 : Int32))))))
theorem cyJ1_indexOf : Callee yJ1_indexOf 4 := by unfold Callee; decide +kernel
set_option maxHeartbeats 4000000 in
theorem ctJ1_indexOf_s0 (l : Launch) (D : va_G) (dA : Nat → ClassId) (x1 : Int32) (x2 : Int32) (x3 : Int32) (r : Int32) (hm : mJ1_indexOf_s0 x1 x2 x3 = some r) : CT l yJ1_indexOf cJ1_indexOf 4 (some .int) D dA 1 25 0 0 [] [.ref (dA 20), .int x1, .int x2, .int x3] (some (.int r)) [] := by
  refine ct_open (by decide) (Nat.le_of_ble_eq_true rfl) ?_
  intro G X hI hZ hV hR
  have hRet := hI rfl r rfl
  refine (show TM G r (mJ1_indexOf_s0 x1 x2 x3) [] 0 0 0 [(0, .ref (dA 20)), (1, .int x1), (2, .int x2), (3, .int x3)] [] from ?_) hm
  clear hm hI hZ hV hR
  unfold mJ1_indexOf_s0
  refine tm_iload_n X 1 dJ1_indexOf_0 rfl rfl ?_
  refine tm_cl1 (fun r1 e2 => ?_)
  refine tm_callSi (As := [.int x1]) (rest := []) X (ctJ1_canEncode l D dA x1 r1 e2) (lw_S q409 q410 q125 q411) cyJ1_canEncode rfl ⟨(Nat.le_of_ble_eq_true rfl), (Nat.le_of_ble_eq_true rfl)⟩ (Nat.le_of_ble_eq_true rfl) dJ1_indexOf_1 ⟨Nat.le_refl 0, Nat.le_refl 0⟩ rfl ?_
  refine tm_if_ne X 9 dJ1_indexOf_4 rfl ?_ ?_
  · skip
    refine tm_iload_n X 2 dJ1_indexOf_9 rfl rfl ?_
    refine tm_iconst X (0 : Int32) dJ1_indexOf_10 (by decide) ?_
    refine tm_mmax X q412 (Nat.le_of_ble_eq_true rfl) (Nat.le_of_ble_eq_true rfl) ⟨Nat.le_refl 0, Nat.le_refl 0⟩ dJ1_indexOf_11 ?_
    refine tm_nmI (fun v3 => ?_)
    refine tm_istore_n X [(2, .int v3), (0, .ref (dA 20)), (1, .int x1), (3, .int x3)] dJ1_indexOf_14 rfl (Nat.le_of_ble_eq_true rfl) rfl ?_
    refine tm_iload_n X 3 dJ1_indexOf_15 rfl rfl ?_
    refine tm_aload_n X 1 dJ1_indexOf_16 rfl rfl ?_
    refine tm_slen (i := 0) (v := (3 : Int32)) X (by decide) rfl (by decide) dJ1_indexOf_17 ?_
    refine tm_mmin X q415 (Nat.le_of_ble_eq_true rfl) (Nat.le_of_ble_eq_true rfl) ⟨Nat.le_refl 0, Nat.le_refl 0⟩ dJ1_indexOf_18 ?_
    refine tm_nmI (fun v4 => ?_)
    refine tm_istore_n X [(3, .int v4), (2, .int v3), (0, .ref (dA 20)), (1, .int x1)] dJ1_indexOf_21 rfl (Nat.le_of_ble_eq_true rfl) rfl ?_
    refine tm_iload_n X 1 dJ1_indexOf_22 rfl rfl ?_
    refine tm_iload_n X 0 dJ1_indexOf_23 rfl rfl ?_
    refine tm_ic_lt X 29 dJ1_indexOf_24 rfl ?_ ?_
    · skip
      refine tm_aload_n X 2 dJ1_indexOf_29 rfl rfl ?_
      refine tm_iload_n X 3 dJ1_indexOf_30 rfl rfl ?_
      refine tm_iload_n X 1 dJ1_indexOf_31 rfl rfl ?_
      refine tm_iload_n X 0 dJ1_indexOf_32 rfl rfl ?_
      refine tm_cl1 (fun r5 e6 => ?_)
      refine tm_callSi (As := [.ref (dA 20), .int x1, .int v3, .int v4]) (rest := []) X (ctJ1_indexOfChar_s0 l D dA x1 v3 v4 r5 e6) (lw_S q418 q419 q125 q420) cyJ1_indexOfChar rfl ⟨(Nat.le_of_ble_eq_true rfl), (Nat.le_of_ble_eq_true rfl)⟩ (Nat.le_of_ble_eq_true rfl) dJ1_indexOf_33 ⟨Nat.le_refl 0, Nat.le_refl 0⟩ rfl ?_
      exact tm_retI hRet dJ1_indexOf_36
    · skip
      refine tm_iconst X (-1 : Int32) dJ1_indexOf_27 (by decide) ?_
      exact tm_retI hRet dJ1_indexOf_28
  · skip
    refine tm_iconst X (-1 : Int32) dJ1_indexOf_7 (by decide) ?_
    exact tm_retI hRet dJ1_indexOf_8
def mJ0_indexOf_2_s0 (x1 : Int32) (x2 : Int32) : Option (Int32) :=
nm (fun (s1 : Int32) =>
some s1) (fun k36 =>
if (1 : Int32) = 0 then (
none) else (
cl1 (mJ1_indexOf_s0 x1 x2 (3 : Int32)) (fun r2 =>
k36 r2)))
theorem cyJ0_indexOf_2 : Callee yJ0_indexOf_2 2 := by unfold Callee; decide +kernel
set_option maxHeartbeats 4000000 in
theorem ctJ0_indexOf_2_s0 (l : Launch) (D : va_G) (dA : Nat → ClassId) (x1 : Int32) (x2 : Int32) (r : Int32) (hm : mJ0_indexOf_2_s0 x1 x2 = some r) : CT l yJ0_indexOf_2 cJ0_indexOf_2 3 (some .int) D dA 2 48 0 0 [] [.ref (dA 10), .int x1, .int x2] (some (.int r)) [] := by
  refine ct_open (by decide) (Nat.le_of_ble_eq_true rfl) ?_
  intro G X hI hZ hV hR
  have hRet := hI rfl r rfl
  refine (show TM G r (mJ0_indexOf_2_s0 x1 x2) [] 0 0 0 [(0, .ref (dA 10)), (1, .int x1), (2, .int x2)] [] from ?_) hm
  clear hm hI hZ hV hR
  unfold mJ0_indexOf_2_s0
  refine tm_aload_n X 0 dJ0_indexOf_2_0 rfl rfl ?_
  refine tm_callVSi (i := 0) (As := []) (rest := []) X (by decide) rfl rfl (ctJ0_isLatin1_s0 l D dA) (lw_V q392 q393 q394 q124 q395) cyJ0_isLatin1 rfl ⟨(Nat.le_of_ble_eq_true rfl), (Nat.le_of_ble_eq_true rfl)⟩ (Nat.le_of_ble_eq_true rfl) dJ0_indexOf_2_1 ⟨Nat.le_refl 0, Nat.le_refl 0⟩ rfl ?_
  refine tm_let (fun k => ∀ (s1 : Int32), TM G r (k s1) [] 0 0 36 [] [.int s1]) ?_ (fun k36 hk36 => ?_)
  · intro s1
    exact tm_retI hRet dJ0_indexOf_2_36
  · skip
    refine tm_if_eq X 23 dJ0_indexOf_2_4 rfl ?_ ?_
    · skip
      exact tm_none
    · skip
      refine tm_aload_n X 0 dJ0_indexOf_2_7 rfl rfl ?_
      refine tm_svalue (i := 0) X (dA 20) (by decide) q1873 rfl rfl rfl dJ0_indexOf_2_8 ?_
      refine tm_iload_n X 1 dJ0_indexOf_2_11 rfl rfl ?_
      refine tm_iload_n X 2 dJ0_indexOf_2_12 rfl rfl ?_
      refine tm_aload_n X 0 dJ0_indexOf_2_13 rfl rfl ?_
      refine tm_callVSi (i := 0) (As := []) (rest := [.int x2, .int x1, .ref (dA 20)]) X (by decide) rfl rfl (ctJ0_length_s0 l D dA) (lw_V q398 q399 q400 q124 q401) cyJ0_length rfl ⟨(Nat.le_of_ble_eq_true rfl), (Nat.le_of_ble_eq_true rfl)⟩ (Nat.le_of_ble_eq_true rfl) dJ0_indexOf_2_14 ⟨Nat.le_refl 0, Nat.le_refl 0⟩ rfl ?_
      refine tm_cl1 (fun r2 e3 => ?_)
      refine tm_callSi (As := [.ref (dA 20), .int x1, .int x2, .int (3 : Int32)]) (rest := []) X (ctJ1_indexOf_s0 l D dA x1 x2 (3 : Int32) r2 e3) (lw_S q406 q407 q125 q408) cyJ1_indexOf rfl ⟨(Nat.le_of_ble_eq_true rfl), (Nat.le_of_ble_eq_true rfl)⟩ (Nat.le_of_ble_eq_true rfl) dJ0_indexOf_2_17 ⟨Nat.le_refl 0, Nat.le_refl 0⟩ rfl ?_
      refine tm_goto X 36 dJ0_indexOf_2_20 rfl ?_
      refine tm_lv X [] rfl ?_
      exact hk36 r2
def mJ0_indexOf_s0 (x1 : Int32) : Option (Int32) :=
cl1 (mJ0_indexOf_2_s0 x1 (0 : Int32)) (fun r1 =>
some r1)
theorem cyJ0_indexOf : Callee yJ0_indexOf 1 := by unfold Callee; decide +kernel
set_option maxHeartbeats 4000000 in
theorem ctJ0_indexOf_s0 (l : Launch) (D : va_G) (dA : Nat → ClassId) (x1 : Int32) (r : Int32) (hm : mJ0_indexOf_s0 x1 = some r) : CT l yJ0_indexOf cJ0_indexOf 2 (some .int) D dA 3 70 0 0 [] [.ref (dA 10), .int x1] (some (.int r)) [] := by
  refine ct_open (by decide) (Nat.le_of_ble_eq_true rfl) ?_
  intro G X hI hZ hV hR
  have hRet := hI rfl r rfl
  refine (show TM G r (mJ0_indexOf_s0 x1) [] 0 0 0 [(0, .ref (dA 10)), (1, .int x1)] [] from ?_) hm
  clear hm hI hZ hV hR
  unfold mJ0_indexOf_s0
  refine tm_aload_n X 0 dJ0_indexOf_0 rfl rfl ?_
  refine tm_iload_n X 1 dJ0_indexOf_1 rfl rfl ?_
  refine tm_iconst X (0 : Int32) dJ0_indexOf_2 (by decide) ?_
  refine tm_cl1 (fun r1 e2 => ?_)
  refine tm_callVSi (i := 0) (As := [.int x1, .int (0 : Int32)]) (rest := []) X (by decide) rfl rfl (ctJ0_indexOf_2_s0 l D dA x1 (0 : Int32) r1 e2) (lw_V q388 q389 q390 q124 q391) cyJ0_indexOf_2 rfl ⟨(Nat.le_of_ble_eq_true rfl), (Nat.le_of_ble_eq_true rfl)⟩ (Nat.le_of_ble_eq_true rfl) dJ0_indexOf_3 ⟨Nat.le_refl 0, Nat.le_refl 0⟩ rfl ?_
  exact tm_retI hRet dJ0_indexOf_6
theorem ctJ0_coder_s1 (l : Launch) (D : va_G) (dA : Nat → ClassId) : CT l yJ0_coder cJ0_coder 1 (some .byte) D dA 0 0 0 0 [] [.ref (dA 11)] (some (.int 0)) [] := by
  refine ct_openT (by decide) (Nat.le_of_ble_eq_true rfl) rfl ?_
  intro G X hRet
  refine (show TM G () (some ()) [] 0 0 0 [(0, .ref (dA 11))] [] from ?_) rfl
  refine tm_csz X q396 rfl dJ0_coder_0 ?_
  refine (show TM G () (if (1 : Int32) = 0 then none else some ()) [] 0 0 3 [(0, .ref (dA 11))] [.int 1] from ?_)
  refine tm_if_eq X 13 dJ0_coder_3 rfl tm_none ?_
  refine tm_aload_n X 0 dJ0_coder_6 rfl rfl ?_
  refine tm_scoder (i := 1) X (by decide) q1872 rfl rfl dJ0_coder_7 ?_
  refine tm_goto X 14 dJ0_coder_10 rfl ?_
  exact fun _ => hRet _ _ dJ0_coder_14
theorem ctJ0_isLatin1_s1 (l : Launch) (D : va_G) (dA : Nat → ClassId) : CT l yJ0_isLatin1 cJ0_isLatin1 1 (some .boolean) D dA 0 0 0 0 [] [.ref (dA 11)] (some (.int 1)) [] := by
  refine ct_openT (by decide) (Nat.le_of_ble_eq_true rfl) rfl ?_
  intro G X hRet
  refine (show TM G () (some ()) [] 0 0 0 [(0, .ref (dA 11))] [] from ?_) rfl
  refine tm_csz X q396 rfl dJ0_isLatin1_0 ?_
  refine (show TM G () (if (1 : Int32) = 0 then none else (if (0 : Int32) = 0 then some () else none)) [] 0 0 3 [(0, .ref (dA 11))] [.int 1] from ?_)
  refine tm_if_eq X 17 dJ0_isLatin1_3 rfl tm_none ?_
  refine tm_aload_n X 0 dJ0_isLatin1_6 rfl rfl ?_
  refine tm_scoder (i := 1) X (by decide) q1872 rfl rfl dJ0_isLatin1_7 ?_
  refine tm_if_ne X 17 dJ0_isLatin1_10 rfl tm_none ?_
  refine tm_iconst X (1 : Int32) dJ0_isLatin1_13 (by decide) ?_
  refine tm_goto X 18 dJ0_isLatin1_14 rfl ?_
  exact fun _ => hRet _ _ dJ0_isLatin1_18
theorem ctJ0_length_s1 (l : Launch) (D : va_G) (dA : Nat → ClassId) : CT l yJ0_length cJ0_length 1 (some .int) D dA 1 20 0 0 [] [.ref (dA 11)] (some (.int 10)) [] := by
  refine ct_openT (by decide) (Nat.le_of_ble_eq_true rfl) rfl ?_
  intro G X hRet
  refine (show TM G () (some ()) [] 0 0 0 [(0, .ref (dA 11))] [] from ?_) rfl
  refine tm_aload_n X 0 dJ0_length_0 rfl rfl ?_
  refine tm_svalue (i := 1) X (dA 21) (by decide) q1873 rfl rfl rfl dJ0_length_1 ?_
  refine tm_slen (i := 1) (v := (10 : Int32)) X (by decide) rfl (by decide) dJ0_length_4 ?_
  refine tm_aload_n X 0 dJ0_length_5 rfl rfl ?_
  refine tm_callVSi (i := 1) (As := []) (rest := [.int 10]) X (by decide) rfl rfl (ctJ0_coder_s1 l D dA) (lw_V q402 q403 q404 q124 q405) cyJ0_coder rfl ⟨Nat.le_of_ble_eq_true rfl, Nat.le_of_ble_eq_true rfl⟩ (Nat.le_of_ble_eq_true rfl) dJ0_length_6 ⟨Nat.le_refl 0, Nat.le_refl 0⟩ rfl ?_
  refine tm_ishr X dJ0_length_9 ?_
  exact fun _ => hRet _ _ dJ0_length_10
def mJ1_indexOfChar_s1 (x1 : Int32) (x2 : Int32) (x3 : Int32) : Option (Int32) :=
nm ((x1.toInt8.toInt32)) (fun v1 =>
fx FU (fun _ => none) (fun k7 (x5_2 : Int32) =>
if x3 ≤ x5_2 then (
some (-1 : Int32)) else (
ck x5_2 10 (
if (sb 1 x5_2.toNatClampNeg) = v1 then (
some x5_2) else (
k7 (x5_2 + (1 : Int32)))))) x2)
set_option maxHeartbeats 4000000 in
theorem ctJ1_indexOfChar_s1 (l : Launch) (D : va_G) (dA : Nat → ClassId) (x1 : Int32) (x2 : Int32) (x3 : Int32) (r : Int32) (hm : mJ1_indexOfChar_s1 x1 x2 x3 = some r) : CT l yJ1_indexOfChar cJ1_indexOfChar 6 (some .int) D dA 0 0 0 0 [] [.ref (dA 21), .int x1, .int x2, .int x3] (some (.int r)) [] := by
  refine ct_open (by decide) (Nat.le_of_ble_eq_true rfl) ?_
  intro G X hI hZ hV hR
  have hRet := hI rfl r rfl
  refine (show TM G r (mJ1_indexOfChar_s1 x1 x2 x3) [] 0 0 0 [(0, .ref (dA 21)), (1, .int x1), (2, .int x2), (3, .int x3)] [] from ?_) hm
  clear hm hI hZ hV hR
  unfold mJ1_indexOfChar_s1
  refine tm_iload_n X 1 dJ1_indexOfChar_0 rfl rfl ?_
  refine tm_i2b X dJ1_indexOfChar_1 ?_
  refine tm_nmI (fun v1 => ?_)
  refine tm_istore X [(4, .int v1), (0, .ref (dA 21)), (1, .int x1), (2, .int x2), (3, .int x3)] dJ1_indexOfChar_2 (Nat.le_of_ble_eq_true rfl) rfl ?_
  refine tm_iload_n X 3 dJ1_indexOfChar_4 rfl rfl ?_
  refine tm_istore X [(5, .int x2), (4, .int v1), (0, .ref (dA 21)), (1, .int x1), (2, .int x2), (3, .int x3)] dJ1_indexOfChar_5 (Nat.le_of_ble_eq_true rfl) rfl ?_
  refine tm_lv X [2, 5, 1, 0] rfl ?_
  refine fx_P (fun (k : Int32 → Option (Int32)) => ∀ (x5_2 : Int32), TM G r (k x5_2) [] 0 0 7 [(0, .ref (dA 21)), (3, .int x3), (4, .int v1), (5, .int x5_2)] []) (fun _ => tm_none) (fun k7 hk7 x5_2 => ?_) FU x2
  refine tm_iload X 3 dJ1_indexOfChar_7 rfl ?_
  refine tm_iload_n X 1 dJ1_indexOfChar_9 rfl rfl ?_
  refine tm_ic_ge X 31 dJ1_indexOfChar_10 rfl ?_ ?_
  · skip
    refine tm_iconst X (-1 : Int32) dJ1_indexOfChar_31 (by decide) ?_
    exact tm_retI hRet dJ1_indexOfChar_32
  · skip
    refine tm_aload_n X 0 dJ1_indexOfChar_13 rfl rfl ?_
    refine tm_iload X 3 dJ1_indexOfChar_14 rfl ?_
    refine tm_sbald (i := 1) X (by decide) rfl rfl dJ1_indexOfChar_16 ?_
    refine tm_iload X 2 dJ1_indexOfChar_17 rfl ?_
    refine tm_ic_ne X 25 dJ1_indexOfChar_19 rfl ?_ ?_
    · skip
      refine tm_iinc (v := (1 : Int32)) X 3 [(5, .int (x5_2 + (1 : Int32))), (0, .ref (dA 21)), (3, .int x3), (4, .int v1)] dJ1_indexOfChar_25 rfl (by decide) (Nat.le_of_ble_eq_true rfl) rfl ?_
      refine tm_goto X 7 dJ1_indexOfChar_28 rfl ?_
      refine tm_lv X [1, 2, 3, 0] rfl ?_
      exact hk7 (x5_2 + (1 : Int32))
    · skip
      refine tm_iload X 3 dJ1_indexOfChar_22 rfl ?_
      exact tm_retI hRet dJ1_indexOfChar_24
def mJ1_indexOf_s1 (x1 : Int32) (x2 : Int32) (x3 : Int32) : Option (Int32) :=
cl1 (mJ1_canEncode x1) (fun r1 =>
if r1 = 0 then (
some (-1 : Int32)) else (
nm ((jmax x2 (0 : Int32))) (fun v3 =>
nm ((jmin x3 (10 : Int32))) (fun v4 =>
if v3 < v4 then (
cl1 (mJ1_indexOfChar_s1 x1 v3 v4) (fun r5 =>
some r5)) else (
some (-1 : Int32))))))
set_option maxHeartbeats 4000000 in
theorem ctJ1_indexOf_s1 (l : Launch) (D : va_G) (dA : Nat → ClassId) (x1 : Int32) (x2 : Int32) (x3 : Int32) (r : Int32) (hm : mJ1_indexOf_s1 x1 x2 x3 = some r) : CT l yJ1_indexOf cJ1_indexOf 4 (some .int) D dA 1 25 0 0 [] [.ref (dA 21), .int x1, .int x2, .int x3] (some (.int r)) [] := by
  refine ct_open (by decide) (Nat.le_of_ble_eq_true rfl) ?_
  intro G X hI hZ hV hR
  have hRet := hI rfl r rfl
  refine (show TM G r (mJ1_indexOf_s1 x1 x2 x3) [] 0 0 0 [(0, .ref (dA 21)), (1, .int x1), (2, .int x2), (3, .int x3)] [] from ?_) hm
  clear hm hI hZ hV hR
  unfold mJ1_indexOf_s1
  refine tm_iload_n X 1 dJ1_indexOf_0 rfl rfl ?_
  refine tm_cl1 (fun r1 e2 => ?_)
  refine tm_callSi (As := [.int x1]) (rest := []) X (ctJ1_canEncode l D dA x1 r1 e2) (lw_S q409 q410 q125 q411) cyJ1_canEncode rfl ⟨(Nat.le_of_ble_eq_true rfl), (Nat.le_of_ble_eq_true rfl)⟩ (Nat.le_of_ble_eq_true rfl) dJ1_indexOf_1 ⟨Nat.le_refl 0, Nat.le_refl 0⟩ rfl ?_
  refine tm_if_ne X 9 dJ1_indexOf_4 rfl ?_ ?_
  · skip
    refine tm_iload_n X 2 dJ1_indexOf_9 rfl rfl ?_
    refine tm_iconst X (0 : Int32) dJ1_indexOf_10 (by decide) ?_
    refine tm_mmax X q412 (Nat.le_of_ble_eq_true rfl) (Nat.le_of_ble_eq_true rfl) ⟨Nat.le_refl 0, Nat.le_refl 0⟩ dJ1_indexOf_11 ?_
    refine tm_nmI (fun v3 => ?_)
    refine tm_istore_n X [(2, .int v3), (0, .ref (dA 21)), (1, .int x1), (3, .int x3)] dJ1_indexOf_14 rfl (Nat.le_of_ble_eq_true rfl) rfl ?_
    refine tm_iload_n X 3 dJ1_indexOf_15 rfl rfl ?_
    refine tm_aload_n X 1 dJ1_indexOf_16 rfl rfl ?_
    refine tm_slen (i := 1) (v := (10 : Int32)) X (by decide) rfl (by decide) dJ1_indexOf_17 ?_
    refine tm_mmin X q415 (Nat.le_of_ble_eq_true rfl) (Nat.le_of_ble_eq_true rfl) ⟨Nat.le_refl 0, Nat.le_refl 0⟩ dJ1_indexOf_18 ?_
    refine tm_nmI (fun v4 => ?_)
    refine tm_istore_n X [(3, .int v4), (2, .int v3), (0, .ref (dA 21)), (1, .int x1)] dJ1_indexOf_21 rfl (Nat.le_of_ble_eq_true rfl) rfl ?_
    refine tm_iload_n X 1 dJ1_indexOf_22 rfl rfl ?_
    refine tm_iload_n X 0 dJ1_indexOf_23 rfl rfl ?_
    refine tm_ic_lt X 29 dJ1_indexOf_24 rfl ?_ ?_
    · skip
      refine tm_aload_n X 2 dJ1_indexOf_29 rfl rfl ?_
      refine tm_iload_n X 3 dJ1_indexOf_30 rfl rfl ?_
      refine tm_iload_n X 1 dJ1_indexOf_31 rfl rfl ?_
      refine tm_iload_n X 0 dJ1_indexOf_32 rfl rfl ?_
      refine tm_cl1 (fun r5 e6 => ?_)
      refine tm_callSi (As := [.ref (dA 21), .int x1, .int v3, .int v4]) (rest := []) X (ctJ1_indexOfChar_s1 l D dA x1 v3 v4 r5 e6) (lw_S q418 q419 q125 q420) cyJ1_indexOfChar rfl ⟨(Nat.le_of_ble_eq_true rfl), (Nat.le_of_ble_eq_true rfl)⟩ (Nat.le_of_ble_eq_true rfl) dJ1_indexOf_33 ⟨Nat.le_refl 0, Nat.le_refl 0⟩ rfl ?_
      exact tm_retI hRet dJ1_indexOf_36
    · skip
      refine tm_iconst X (-1 : Int32) dJ1_indexOf_27 (by decide) ?_
      exact tm_retI hRet dJ1_indexOf_28
  · skip
    refine tm_iconst X (-1 : Int32) dJ1_indexOf_7 (by decide) ?_
    exact tm_retI hRet dJ1_indexOf_8
def mJ0_indexOf_2_s1 (x1 : Int32) (x2 : Int32) : Option (Int32) :=
nm (fun (s1 : Int32) =>
some s1) (fun k36 =>
if (1 : Int32) = 0 then (
none) else (
cl1 (mJ1_indexOf_s1 x1 x2 (10 : Int32)) (fun r2 =>
k36 r2)))
set_option maxHeartbeats 4000000 in
theorem ctJ0_indexOf_2_s1 (l : Launch) (D : va_G) (dA : Nat → ClassId) (x1 : Int32) (x2 : Int32) (r : Int32) (hm : mJ0_indexOf_2_s1 x1 x2 = some r) : CT l yJ0_indexOf_2 cJ0_indexOf_2 3 (some .int) D dA 2 48 0 0 [] [.ref (dA 11), .int x1, .int x2] (some (.int r)) [] := by
  refine ct_open (by decide) (Nat.le_of_ble_eq_true rfl) ?_
  intro G X hI hZ hV hR
  have hRet := hI rfl r rfl
  refine (show TM G r (mJ0_indexOf_2_s1 x1 x2) [] 0 0 0 [(0, .ref (dA 11)), (1, .int x1), (2, .int x2)] [] from ?_) hm
  clear hm hI hZ hV hR
  unfold mJ0_indexOf_2_s1
  refine tm_aload_n X 0 dJ0_indexOf_2_0 rfl rfl ?_
  refine tm_callVSi (i := 1) (As := []) (rest := []) X (by decide) rfl rfl (ctJ0_isLatin1_s1 l D dA) (lw_V q392 q393 q394 q124 q395) cyJ0_isLatin1 rfl ⟨(Nat.le_of_ble_eq_true rfl), (Nat.le_of_ble_eq_true rfl)⟩ (Nat.le_of_ble_eq_true rfl) dJ0_indexOf_2_1 ⟨Nat.le_refl 0, Nat.le_refl 0⟩ rfl ?_
  refine tm_let (fun k => ∀ (s1 : Int32), TM G r (k s1) [] 0 0 36 [] [.int s1]) ?_ (fun k36 hk36 => ?_)
  · intro s1
    exact tm_retI hRet dJ0_indexOf_2_36
  · skip
    refine tm_if_eq X 23 dJ0_indexOf_2_4 rfl ?_ ?_
    · skip
      exact tm_none
    · skip
      refine tm_aload_n X 0 dJ0_indexOf_2_7 rfl rfl ?_
      refine tm_svalue (i := 1) X (dA 21) (by decide) q1873 rfl rfl rfl dJ0_indexOf_2_8 ?_
      refine tm_iload_n X 1 dJ0_indexOf_2_11 rfl rfl ?_
      refine tm_iload_n X 2 dJ0_indexOf_2_12 rfl rfl ?_
      refine tm_aload_n X 0 dJ0_indexOf_2_13 rfl rfl ?_
      refine tm_callVSi (i := 1) (As := []) (rest := [.int x2, .int x1, .ref (dA 21)]) X (by decide) rfl rfl (ctJ0_length_s1 l D dA) (lw_V q398 q399 q400 q124 q401) cyJ0_length rfl ⟨(Nat.le_of_ble_eq_true rfl), (Nat.le_of_ble_eq_true rfl)⟩ (Nat.le_of_ble_eq_true rfl) dJ0_indexOf_2_14 ⟨Nat.le_refl 0, Nat.le_refl 0⟩ rfl ?_
      refine tm_cl1 (fun r2 e3 => ?_)
      refine tm_callSi (As := [.ref (dA 21), .int x1, .int x2, .int (10 : Int32)]) (rest := []) X (ctJ1_indexOf_s1 l D dA x1 x2 (10 : Int32) r2 e3) (lw_S q406 q407 q125 q408) cyJ1_indexOf rfl ⟨(Nat.le_of_ble_eq_true rfl), (Nat.le_of_ble_eq_true rfl)⟩ (Nat.le_of_ble_eq_true rfl) dJ0_indexOf_2_17 ⟨Nat.le_refl 0, Nat.le_refl 0⟩ rfl ?_
      refine tm_goto X 36 dJ0_indexOf_2_20 rfl ?_
      refine tm_lv X [] rfl ?_
      exact hk36 r2
def mJ0_indexOf_s1 (x1 : Int32) : Option (Int32) :=
cl1 (mJ0_indexOf_2_s1 x1 (0 : Int32)) (fun r1 =>
some r1)
set_option maxHeartbeats 4000000 in
theorem ctJ0_indexOf_s1 (l : Launch) (D : va_G) (dA : Nat → ClassId) (x1 : Int32) (r : Int32) (hm : mJ0_indexOf_s1 x1 = some r) : CT l yJ0_indexOf cJ0_indexOf 2 (some .int) D dA 3 70 0 0 [] [.ref (dA 11), .int x1] (some (.int r)) [] := by
  refine ct_open (by decide) (Nat.le_of_ble_eq_true rfl) ?_
  intro G X hI hZ hV hR
  have hRet := hI rfl r rfl
  refine (show TM G r (mJ0_indexOf_s1 x1) [] 0 0 0 [(0, .ref (dA 11)), (1, .int x1)] [] from ?_) hm
  clear hm hI hZ hV hR
  unfold mJ0_indexOf_s1
  refine tm_aload_n X 0 dJ0_indexOf_0 rfl rfl ?_
  refine tm_iload_n X 1 dJ0_indexOf_1 rfl rfl ?_
  refine tm_iconst X (0 : Int32) dJ0_indexOf_2 (by decide) ?_
  refine tm_cl1 (fun r1 e2 => ?_)
  refine tm_callVSi (i := 1) (As := [.int x1, .int (0 : Int32)]) (rest := []) X (by decide) rfl rfl (ctJ0_indexOf_2_s1 l D dA x1 (0 : Int32) r1 e2) (lw_V q388 q389 q390 q124 q391) cyJ0_indexOf_2 rfl ⟨(Nat.le_of_ble_eq_true rfl), (Nat.le_of_ble_eq_true rfl)⟩ (Nat.le_of_ble_eq_true rfl) dJ0_indexOf_3 ⟨Nat.le_refl 0, Nat.le_refl 0⟩ rfl ?_
  exact tm_retI hRet dJ0_indexOf_6
theorem ctJ0_coder_s2 (l : Launch) (D : va_G) (dA : Nat → ClassId) : CT l yJ0_coder cJ0_coder 1 (some .byte) D dA 0 0 0 0 [] [.ref (dA 12)] (some (.int 0)) [] := by
  refine ct_openT (by decide) (Nat.le_of_ble_eq_true rfl) rfl ?_
  intro G X hRet
  refine (show TM G () (some ()) [] 0 0 0 [(0, .ref (dA 12))] [] from ?_) rfl
  refine tm_csz X q396 rfl dJ0_coder_0 ?_
  refine (show TM G () (if (1 : Int32) = 0 then none else some ()) [] 0 0 3 [(0, .ref (dA 12))] [.int 1] from ?_)
  refine tm_if_eq X 13 dJ0_coder_3 rfl tm_none ?_
  refine tm_aload_n X 0 dJ0_coder_6 rfl rfl ?_
  refine tm_scoder (i := 2) X (by decide) q1872 rfl rfl dJ0_coder_7 ?_
  refine tm_goto X 14 dJ0_coder_10 rfl ?_
  exact fun _ => hRet _ _ dJ0_coder_14
theorem ctJ0_isLatin1_s2 (l : Launch) (D : va_G) (dA : Nat → ClassId) : CT l yJ0_isLatin1 cJ0_isLatin1 1 (some .boolean) D dA 0 0 0 0 [] [.ref (dA 12)] (some (.int 1)) [] := by
  refine ct_openT (by decide) (Nat.le_of_ble_eq_true rfl) rfl ?_
  intro G X hRet
  refine (show TM G () (some ()) [] 0 0 0 [(0, .ref (dA 12))] [] from ?_) rfl
  refine tm_csz X q396 rfl dJ0_isLatin1_0 ?_
  refine (show TM G () (if (1 : Int32) = 0 then none else (if (0 : Int32) = 0 then some () else none)) [] 0 0 3 [(0, .ref (dA 12))] [.int 1] from ?_)
  refine tm_if_eq X 17 dJ0_isLatin1_3 rfl tm_none ?_
  refine tm_aload_n X 0 dJ0_isLatin1_6 rfl rfl ?_
  refine tm_scoder (i := 2) X (by decide) q1872 rfl rfl dJ0_isLatin1_7 ?_
  refine tm_if_ne X 17 dJ0_isLatin1_10 rfl tm_none ?_
  refine tm_iconst X (1 : Int32) dJ0_isLatin1_13 (by decide) ?_
  refine tm_goto X 18 dJ0_isLatin1_14 rfl ?_
  exact fun _ => hRet _ _ dJ0_isLatin1_18
theorem ctJ0_length_s2 (l : Launch) (D : va_G) (dA : Nat → ClassId) : CT l yJ0_length cJ0_length 1 (some .int) D dA 1 20 0 0 [] [.ref (dA 12)] (some (.int 5)) [] := by
  refine ct_openT (by decide) (Nat.le_of_ble_eq_true rfl) rfl ?_
  intro G X hRet
  refine (show TM G () (some ()) [] 0 0 0 [(0, .ref (dA 12))] [] from ?_) rfl
  refine tm_aload_n X 0 dJ0_length_0 rfl rfl ?_
  refine tm_svalue (i := 2) X (dA 22) (by decide) q1873 rfl rfl rfl dJ0_length_1 ?_
  refine tm_slen (i := 2) (v := (5 : Int32)) X (by decide) rfl (by decide) dJ0_length_4 ?_
  refine tm_aload_n X 0 dJ0_length_5 rfl rfl ?_
  refine tm_callVSi (i := 2) (As := []) (rest := [.int 5]) X (by decide) rfl rfl (ctJ0_coder_s2 l D dA) (lw_V q402 q403 q404 q124 q405) cyJ0_coder rfl ⟨Nat.le_of_ble_eq_true rfl, Nat.le_of_ble_eq_true rfl⟩ (Nat.le_of_ble_eq_true rfl) dJ0_length_6 ⟨Nat.le_refl 0, Nat.le_refl 0⟩ rfl ?_
  refine tm_ishr X dJ0_length_9 ?_
  exact fun _ => hRet _ _ dJ0_length_10
def mJ1_indexOfChar_s2 (x1 : Int32) (x2 : Int32) (x3 : Int32) : Option (Int32) :=
nm ((x1.toInt8.toInt32)) (fun v1 =>
fx FU (fun _ => none) (fun k7 (x5_2 : Int32) =>
if x3 ≤ x5_2 then (
some (-1 : Int32)) else (
ck x5_2 5 (
if (sb 2 x5_2.toNatClampNeg) = v1 then (
some x5_2) else (
k7 (x5_2 + (1 : Int32)))))) x2)
set_option maxHeartbeats 4000000 in
theorem ctJ1_indexOfChar_s2 (l : Launch) (D : va_G) (dA : Nat → ClassId) (x1 : Int32) (x2 : Int32) (x3 : Int32) (r : Int32) (hm : mJ1_indexOfChar_s2 x1 x2 x3 = some r) : CT l yJ1_indexOfChar cJ1_indexOfChar 6 (some .int) D dA 0 0 0 0 [] [.ref (dA 22), .int x1, .int x2, .int x3] (some (.int r)) [] := by
  refine ct_open (by decide) (Nat.le_of_ble_eq_true rfl) ?_
  intro G X hI hZ hV hR
  have hRet := hI rfl r rfl
  refine (show TM G r (mJ1_indexOfChar_s2 x1 x2 x3) [] 0 0 0 [(0, .ref (dA 22)), (1, .int x1), (2, .int x2), (3, .int x3)] [] from ?_) hm
  clear hm hI hZ hV hR
  unfold mJ1_indexOfChar_s2
  refine tm_iload_n X 1 dJ1_indexOfChar_0 rfl rfl ?_
  refine tm_i2b X dJ1_indexOfChar_1 ?_
  refine tm_nmI (fun v1 => ?_)
  refine tm_istore X [(4, .int v1), (0, .ref (dA 22)), (1, .int x1), (2, .int x2), (3, .int x3)] dJ1_indexOfChar_2 (Nat.le_of_ble_eq_true rfl) rfl ?_
  refine tm_iload_n X 3 dJ1_indexOfChar_4 rfl rfl ?_
  refine tm_istore X [(5, .int x2), (4, .int v1), (0, .ref (dA 22)), (1, .int x1), (2, .int x2), (3, .int x3)] dJ1_indexOfChar_5 (Nat.le_of_ble_eq_true rfl) rfl ?_
  refine tm_lv X [2, 5, 1, 0] rfl ?_
  refine fx_P (fun (k : Int32 → Option (Int32)) => ∀ (x5_2 : Int32), TM G r (k x5_2) [] 0 0 7 [(0, .ref (dA 22)), (3, .int x3), (4, .int v1), (5, .int x5_2)] []) (fun _ => tm_none) (fun k7 hk7 x5_2 => ?_) FU x2
  refine tm_iload X 3 dJ1_indexOfChar_7 rfl ?_
  refine tm_iload_n X 1 dJ1_indexOfChar_9 rfl rfl ?_
  refine tm_ic_ge X 31 dJ1_indexOfChar_10 rfl ?_ ?_
  · skip
    refine tm_iconst X (-1 : Int32) dJ1_indexOfChar_31 (by decide) ?_
    exact tm_retI hRet dJ1_indexOfChar_32
  · skip
    refine tm_aload_n X 0 dJ1_indexOfChar_13 rfl rfl ?_
    refine tm_iload X 3 dJ1_indexOfChar_14 rfl ?_
    refine tm_sbald (i := 2) X (by decide) rfl rfl dJ1_indexOfChar_16 ?_
    refine tm_iload X 2 dJ1_indexOfChar_17 rfl ?_
    refine tm_ic_ne X 25 dJ1_indexOfChar_19 rfl ?_ ?_
    · skip
      refine tm_iinc (v := (1 : Int32)) X 3 [(5, .int (x5_2 + (1 : Int32))), (0, .ref (dA 22)), (3, .int x3), (4, .int v1)] dJ1_indexOfChar_25 rfl (by decide) (Nat.le_of_ble_eq_true rfl) rfl ?_
      refine tm_goto X 7 dJ1_indexOfChar_28 rfl ?_
      refine tm_lv X [1, 2, 3, 0] rfl ?_
      exact hk7 (x5_2 + (1 : Int32))
    · skip
      refine tm_iload X 3 dJ1_indexOfChar_22 rfl ?_
      exact tm_retI hRet dJ1_indexOfChar_24
def mJ1_indexOf_s2 (x1 : Int32) (x2 : Int32) (x3 : Int32) : Option (Int32) :=
cl1 (mJ1_canEncode x1) (fun r1 =>
if r1 = 0 then (
some (-1 : Int32)) else (
nm ((jmax x2 (0 : Int32))) (fun v3 =>
nm ((jmin x3 (5 : Int32))) (fun v4 =>
if v3 < v4 then (
cl1 (mJ1_indexOfChar_s2 x1 v3 v4) (fun r5 =>
some r5)) else (
some (-1 : Int32))))))
set_option maxHeartbeats 4000000 in
theorem ctJ1_indexOf_s2 (l : Launch) (D : va_G) (dA : Nat → ClassId) (x1 : Int32) (x2 : Int32) (x3 : Int32) (r : Int32) (hm : mJ1_indexOf_s2 x1 x2 x3 = some r) : CT l yJ1_indexOf cJ1_indexOf 4 (some .int) D dA 1 25 0 0 [] [.ref (dA 22), .int x1, .int x2, .int x3] (some (.int r)) [] := by
  refine ct_open (by decide) (Nat.le_of_ble_eq_true rfl) ?_
  intro G X hI hZ hV hR
  have hRet := hI rfl r rfl
  refine (show TM G r (mJ1_indexOf_s2 x1 x2 x3) [] 0 0 0 [(0, .ref (dA 22)), (1, .int x1), (2, .int x2), (3, .int x3)] [] from ?_) hm
  clear hm hI hZ hV hR
  unfold mJ1_indexOf_s2
  refine tm_iload_n X 1 dJ1_indexOf_0 rfl rfl ?_
  refine tm_cl1 (fun r1 e2 => ?_)
  refine tm_callSi (As := [.int x1]) (rest := []) X (ctJ1_canEncode l D dA x1 r1 e2) (lw_S q409 q410 q125 q411) cyJ1_canEncode rfl ⟨(Nat.le_of_ble_eq_true rfl), (Nat.le_of_ble_eq_true rfl)⟩ (Nat.le_of_ble_eq_true rfl) dJ1_indexOf_1 ⟨Nat.le_refl 0, Nat.le_refl 0⟩ rfl ?_
  refine tm_if_ne X 9 dJ1_indexOf_4 rfl ?_ ?_
  · skip
    refine tm_iload_n X 2 dJ1_indexOf_9 rfl rfl ?_
    refine tm_iconst X (0 : Int32) dJ1_indexOf_10 (by decide) ?_
    refine tm_mmax X q412 (Nat.le_of_ble_eq_true rfl) (Nat.le_of_ble_eq_true rfl) ⟨Nat.le_refl 0, Nat.le_refl 0⟩ dJ1_indexOf_11 ?_
    refine tm_nmI (fun v3 => ?_)
    refine tm_istore_n X [(2, .int v3), (0, .ref (dA 22)), (1, .int x1), (3, .int x3)] dJ1_indexOf_14 rfl (Nat.le_of_ble_eq_true rfl) rfl ?_
    refine tm_iload_n X 3 dJ1_indexOf_15 rfl rfl ?_
    refine tm_aload_n X 1 dJ1_indexOf_16 rfl rfl ?_
    refine tm_slen (i := 2) (v := (5 : Int32)) X (by decide) rfl (by decide) dJ1_indexOf_17 ?_
    refine tm_mmin X q415 (Nat.le_of_ble_eq_true rfl) (Nat.le_of_ble_eq_true rfl) ⟨Nat.le_refl 0, Nat.le_refl 0⟩ dJ1_indexOf_18 ?_
    refine tm_nmI (fun v4 => ?_)
    refine tm_istore_n X [(3, .int v4), (2, .int v3), (0, .ref (dA 22)), (1, .int x1)] dJ1_indexOf_21 rfl (Nat.le_of_ble_eq_true rfl) rfl ?_
    refine tm_iload_n X 1 dJ1_indexOf_22 rfl rfl ?_
    refine tm_iload_n X 0 dJ1_indexOf_23 rfl rfl ?_
    refine tm_ic_lt X 29 dJ1_indexOf_24 rfl ?_ ?_
    · skip
      refine tm_aload_n X 2 dJ1_indexOf_29 rfl rfl ?_
      refine tm_iload_n X 3 dJ1_indexOf_30 rfl rfl ?_
      refine tm_iload_n X 1 dJ1_indexOf_31 rfl rfl ?_
      refine tm_iload_n X 0 dJ1_indexOf_32 rfl rfl ?_
      refine tm_cl1 (fun r5 e6 => ?_)
      refine tm_callSi (As := [.ref (dA 22), .int x1, .int v3, .int v4]) (rest := []) X (ctJ1_indexOfChar_s2 l D dA x1 v3 v4 r5 e6) (lw_S q418 q419 q125 q420) cyJ1_indexOfChar rfl ⟨(Nat.le_of_ble_eq_true rfl), (Nat.le_of_ble_eq_true rfl)⟩ (Nat.le_of_ble_eq_true rfl) dJ1_indexOf_33 ⟨Nat.le_refl 0, Nat.le_refl 0⟩ rfl ?_
      exact tm_retI hRet dJ1_indexOf_36
    · skip
      refine tm_iconst X (-1 : Int32) dJ1_indexOf_27 (by decide) ?_
      exact tm_retI hRet dJ1_indexOf_28
  · skip
    refine tm_iconst X (-1 : Int32) dJ1_indexOf_7 (by decide) ?_
    exact tm_retI hRet dJ1_indexOf_8
def mJ0_indexOf_2_s2 (x1 : Int32) (x2 : Int32) : Option (Int32) :=
nm (fun (s1 : Int32) =>
some s1) (fun k36 =>
if (1 : Int32) = 0 then (
none) else (
cl1 (mJ1_indexOf_s2 x1 x2 (5 : Int32)) (fun r2 =>
k36 r2)))
set_option maxHeartbeats 4000000 in
theorem ctJ0_indexOf_2_s2 (l : Launch) (D : va_G) (dA : Nat → ClassId) (x1 : Int32) (x2 : Int32) (r : Int32) (hm : mJ0_indexOf_2_s2 x1 x2 = some r) : CT l yJ0_indexOf_2 cJ0_indexOf_2 3 (some .int) D dA 2 48 0 0 [] [.ref (dA 12), .int x1, .int x2] (some (.int r)) [] := by
  refine ct_open (by decide) (Nat.le_of_ble_eq_true rfl) ?_
  intro G X hI hZ hV hR
  have hRet := hI rfl r rfl
  refine (show TM G r (mJ0_indexOf_2_s2 x1 x2) [] 0 0 0 [(0, .ref (dA 12)), (1, .int x1), (2, .int x2)] [] from ?_) hm
  clear hm hI hZ hV hR
  unfold mJ0_indexOf_2_s2
  refine tm_aload_n X 0 dJ0_indexOf_2_0 rfl rfl ?_
  refine tm_callVSi (i := 2) (As := []) (rest := []) X (by decide) rfl rfl (ctJ0_isLatin1_s2 l D dA) (lw_V q392 q393 q394 q124 q395) cyJ0_isLatin1 rfl ⟨(Nat.le_of_ble_eq_true rfl), (Nat.le_of_ble_eq_true rfl)⟩ (Nat.le_of_ble_eq_true rfl) dJ0_indexOf_2_1 ⟨Nat.le_refl 0, Nat.le_refl 0⟩ rfl ?_
  refine tm_let (fun k => ∀ (s1 : Int32), TM G r (k s1) [] 0 0 36 [] [.int s1]) ?_ (fun k36 hk36 => ?_)
  · intro s1
    exact tm_retI hRet dJ0_indexOf_2_36
  · skip
    refine tm_if_eq X 23 dJ0_indexOf_2_4 rfl ?_ ?_
    · skip
      exact tm_none
    · skip
      refine tm_aload_n X 0 dJ0_indexOf_2_7 rfl rfl ?_
      refine tm_svalue (i := 2) X (dA 22) (by decide) q1873 rfl rfl rfl dJ0_indexOf_2_8 ?_
      refine tm_iload_n X 1 dJ0_indexOf_2_11 rfl rfl ?_
      refine tm_iload_n X 2 dJ0_indexOf_2_12 rfl rfl ?_
      refine tm_aload_n X 0 dJ0_indexOf_2_13 rfl rfl ?_
      refine tm_callVSi (i := 2) (As := []) (rest := [.int x2, .int x1, .ref (dA 22)]) X (by decide) rfl rfl (ctJ0_length_s2 l D dA) (lw_V q398 q399 q400 q124 q401) cyJ0_length rfl ⟨(Nat.le_of_ble_eq_true rfl), (Nat.le_of_ble_eq_true rfl)⟩ (Nat.le_of_ble_eq_true rfl) dJ0_indexOf_2_14 ⟨Nat.le_refl 0, Nat.le_refl 0⟩ rfl ?_
      refine tm_cl1 (fun r2 e3 => ?_)
      refine tm_callSi (As := [.ref (dA 22), .int x1, .int x2, .int (5 : Int32)]) (rest := []) X (ctJ1_indexOf_s2 l D dA x1 x2 (5 : Int32) r2 e3) (lw_S q406 q407 q125 q408) cyJ1_indexOf rfl ⟨(Nat.le_of_ble_eq_true rfl), (Nat.le_of_ble_eq_true rfl)⟩ (Nat.le_of_ble_eq_true rfl) dJ0_indexOf_2_17 ⟨Nat.le_refl 0, Nat.le_refl 0⟩ rfl ?_
      refine tm_goto X 36 dJ0_indexOf_2_20 rfl ?_
      refine tm_lv X [] rfl ?_
      exact hk36 r2
def mJ0_indexOf_s2 (x1 : Int32) : Option (Int32) :=
cl1 (mJ0_indexOf_2_s2 x1 (0 : Int32)) (fun r1 =>
some r1)
set_option maxHeartbeats 4000000 in
theorem ctJ0_indexOf_s2 (l : Launch) (D : va_G) (dA : Nat → ClassId) (x1 : Int32) (r : Int32) (hm : mJ0_indexOf_s2 x1 = some r) : CT l yJ0_indexOf cJ0_indexOf 2 (some .int) D dA 3 70 0 0 [] [.ref (dA 12), .int x1] (some (.int r)) [] := by
  refine ct_open (by decide) (Nat.le_of_ble_eq_true rfl) ?_
  intro G X hI hZ hV hR
  have hRet := hI rfl r rfl
  refine (show TM G r (mJ0_indexOf_s2 x1) [] 0 0 0 [(0, .ref (dA 12)), (1, .int x1)] [] from ?_) hm
  clear hm hI hZ hV hR
  unfold mJ0_indexOf_s2
  refine tm_aload_n X 0 dJ0_indexOf_0 rfl rfl ?_
  refine tm_iload_n X 1 dJ0_indexOf_1 rfl rfl ?_
  refine tm_iconst X (0 : Int32) dJ0_indexOf_2 (by decide) ?_
  refine tm_cl1 (fun r1 e2 => ?_)
  refine tm_callVSi (i := 2) (As := [.int x1, .int (0 : Int32)]) (rest := []) X (by decide) rfl rfl (ctJ0_indexOf_2_s2 l D dA x1 (0 : Int32) r1 e2) (lw_V q388 q389 q390 q124 q391) cyJ0_indexOf_2 rfl ⟨(Nat.le_of_ble_eq_true rfl), (Nat.le_of_ble_eq_true rfl)⟩ (Nat.le_of_ble_eq_true rfl) dJ0_indexOf_3 ⟨Nat.le_refl 0, Nat.le_refl 0⟩ rfl ?_
  exact tm_retI hRet dJ0_indexOf_6
