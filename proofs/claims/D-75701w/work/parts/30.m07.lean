set_option maxRecDepth 100000
def mX5_acrossOf (x0 : Int32) : Option (Int32) :=
some (((2 : Int32) * (jrem x0 (8 : Int32))) - (7 : Int32))
theorem cyX5_acrossOf : Callee yX5_acrossOf 1 := by unfold Callee; decide +kernel
set_option maxHeartbeats 4000000 in
theorem ctX5_acrossOf (l : Launch) (D : va_G) (dA : Nat → ClassId) (x0 : Int32) (r : Int32) (hm : mX5_acrossOf x0 = some r) : CT l yX5_acrossOf cX5_acrossOf 1 (some .int) D dA 0 0 0 0 [] [.int x0] (some (.int r)) [] := by
  refine ct_open (by decide) (Nat.le_of_ble_eq_true rfl) ?_
  intro G X hI hZ hV hR
  have hRet := hI rfl r rfl
  refine (show TM G r (mX5_acrossOf x0) [] 0 0 0 [(0, .int x0)] [] from ?_) hm
  clear hm hI hZ hV hR
  unfold mX5_acrossOf
  refine tm_iconst X (2 : Int32) dX5_acrossOf_0 (by decide) ?_
  refine tm_iload_n X 0 dX5_acrossOf_1 rfl rfl ?_
  refine tm_bipush X (8 : Int32) dX5_acrossOf_2 (by decide) ?_
  refine tm_irem X dX5_acrossOf_4 (by decide) ?_
  refine tm_imul X dX5_acrossOf_5 ?_
  refine tm_bipush X (7 : Int32) dX5_acrossOf_6 (by decide) ?_
  refine tm_isub X dX5_acrossOf_8 ?_
  exact tm_retI hRet dX5_acrossOf_9
def mX5_alongOf (x0 : Int32) : Option (Int32) :=
some (((2 : Int32) * (x0 / (8 : Int32))) - (5 : Int32))
theorem cyX5_alongOf : Callee yX5_alongOf 1 := by unfold Callee; decide +kernel
set_option maxHeartbeats 4000000 in
theorem ctX5_alongOf (l : Launch) (D : va_G) (dA : Nat → ClassId) (x0 : Int32) (r : Int32) (hm : mX5_alongOf x0 = some r) : CT l yX5_alongOf cX5_alongOf 1 (some .int) D dA 0 0 0 0 [] [.int x0] (some (.int r)) [] := by
  refine ct_open (by decide) (Nat.le_of_ble_eq_true rfl) ?_
  intro G X hI hZ hV hR
  have hRet := hI rfl r rfl
  refine (show TM G r (mX5_alongOf x0) [] 0 0 0 [(0, .int x0)] [] from ?_) hm
  clear hm hI hZ hV hR
  unfold mX5_alongOf
  refine tm_iconst X (2 : Int32) dX5_alongOf_0 (by decide) ?_
  refine tm_iload_n X 0 dX5_alongOf_1 rfl rfl ?_
  refine tm_bipush X (8 : Int32) dX5_alongOf_2 (by decide) ?_
  refine tm_idiv X dX5_alongOf_4 (by decide) ?_
  refine tm_imul X dX5_alongOf_5 ?_
  refine tm_iconst X (5 : Int32) dX5_alongOf_6 (by decide) ?_
  refine tm_isub X dX5_alongOf_7 ?_
  exact tm_retI hRet dX5_alongOf_8
def mX5_middleSide (x0 : Int32) (x1 : Int32) : Option (Int32) :=
cl1 (mX5_acrossOf x0) (fun r1 =>
cl1 (mX5_alongOf x1) (fun r3 =>
cl1 (mX5_alongOf x0) (fun r5 =>
cl1 (mX5_acrossOf x1) (fun r7 =>
some ((r1 * r3) - (r5 * r7))))))
theorem cyX5_middleSide : Callee yX5_middleSide 2 := by unfold Callee; decide +kernel
set_option maxHeartbeats 4000000 in
theorem ctX5_middleSide (l : Launch) (D : va_G) (dA : Nat → ClassId) (x0 : Int32) (x1 : Int32) (r : Int32) (hm : mX5_middleSide x0 x1 = some r) : CT l yX5_middleSide cX5_middleSide 2 (some .int) D dA 1 20 0 0 [] [.int x0, .int x1] (some (.int r)) [] := by
  refine ct_open (by decide) (Nat.le_of_ble_eq_true rfl) ?_
  intro G X hI hZ hV hR
  have hRet := hI rfl r rfl
  refine (show TM G r (mX5_middleSide x0 x1) [] 0 0 0 [(0, .int x0), (1, .int x1)] [] from ?_) hm
  clear hm hI hZ hV hR
  unfold mX5_middleSide
  refine tm_iload_n X 0 dX5_middleSide_0 rfl rfl ?_
  refine tm_cl1 (fun r1 e2 => ?_)
  refine tm_callSi (As := [.int x0]) (rest := []) X (ctX5_acrossOf l D dA x0 r1 e2) (lw_S q1675 q1676 q122 q1677) cyX5_acrossOf rfl ⟨(Nat.le_of_ble_eq_true rfl), (Nat.le_of_ble_eq_true rfl)⟩ (Nat.le_of_ble_eq_true rfl) dX5_middleSide_1 ⟨Nat.le_of_ble_eq_true rfl, Nat.le_of_ble_eq_true rfl⟩ rfl ?_
  refine tm_iload_n X 1 dX5_middleSide_4 rfl rfl ?_
  refine tm_cl1 (fun r3 e4 => ?_)
  refine tm_callSi (As := [.int x1]) (rest := [.int r1]) X (ctX5_alongOf l D dA x1 r3 e4) (lw_S q1678 q1679 q122 q1680) cyX5_alongOf rfl ⟨(Nat.le_of_ble_eq_true rfl), (Nat.le_of_ble_eq_true rfl)⟩ (Nat.le_of_ble_eq_true rfl) dX5_middleSide_5 ⟨Nat.le_of_ble_eq_true rfl, Nat.le_of_ble_eq_true rfl⟩ rfl ?_
  refine tm_imul X dX5_middleSide_8 ?_
  refine tm_iload_n X 0 dX5_middleSide_9 rfl rfl ?_
  refine tm_cl1 (fun r5 e6 => ?_)
  refine tm_callSi (As := [.int x0]) (rest := [.int (r1 * r3)]) X (ctX5_alongOf l D dA x0 r5 e6) (lw_S q1678 q1679 q122 q1680) cyX5_alongOf rfl ⟨(Nat.le_of_ble_eq_true rfl), (Nat.le_of_ble_eq_true rfl)⟩ (Nat.le_of_ble_eq_true rfl) dX5_middleSide_10 ⟨Nat.le_of_ble_eq_true rfl, Nat.le_of_ble_eq_true rfl⟩ rfl ?_
  refine tm_iload_n X 1 dX5_middleSide_13 rfl rfl ?_
  refine tm_cl1 (fun r7 e8 => ?_)
  refine tm_callSi (As := [.int x1]) (rest := [.int r5, .int (r1 * r3)]) X (ctX5_acrossOf l D dA x1 r7 e8) (lw_S q1675 q1676 q122 q1677) cyX5_acrossOf rfl ⟨(Nat.le_of_ble_eq_true rfl), (Nat.le_of_ble_eq_true rfl)⟩ (Nat.le_of_ble_eq_true rfl) dX5_middleSide_14 ⟨Nat.le_of_ble_eq_true rfl, Nat.le_of_ble_eq_true rfl⟩ rfl ?_
  refine tm_imul X dX5_middleSide_17 ?_
  refine tm_isub X dX5_middleSide_18 ?_
  exact tm_retI hRet dX5_middleSide_19
def mX5_holdsMiddle (x0 : Int32) (x1 : Int32) (x2 : Int32) : Option (Int32) :=
cl1 (mX5_round3 x0 x1 x2) (fun r1 =>
if r1 = 0 then (
bz (0 : Int32) (some (0 : Int32))) else (
cl1 (mX5_middleSide x0 x1) (fun r3 =>
cl1 (mX5_middleSide x1 x2) (fun r5 =>
cl1 (mX5_middleSide x2 x0) (fun r7 =>
nm (fun (s9 : Int32) =>
bz s9 (some s9)) (fun k64 =>
nm (
k64 (1 : Int32)) (fun k59 =>
nm (
nm (
k64 (0 : Int32)) (fun k63 =>
if 0 < r3 then (
k63) else (
if 0 < r5 then (
k63) else (
if 0 < r7 then (
k63) else (
k59))))) (fun k45 =>
if r3 < 0 then (
k45) else (
if r5 < 0 then (
k45) else (
if 0 ≤ r7 then (
k59) else (
k45)))))))))))
theorem cyX5_holdsMiddle : Callee yX5_holdsMiddle 3 := by unfold Callee; decide +kernel
set_option maxHeartbeats 4000000 in
theorem ctX5_holdsMiddle (l : Launch) (D : va_G) (dA : Nat → ClassId) (x0 : Int32) (x1 : Int32) (x2 : Int32) (r : Int32) (hm : mX5_holdsMiddle x0 x1 x2 = some r) : CT l yX5_holdsMiddle cX5_holdsMiddle 6 (some .boolean) D dA 2 41 0 0 [] [.int x0, .int x1, .int x2] (some (.int r)) [] := by
  refine ct_open (by decide) (Nat.le_of_ble_eq_true rfl) ?_
  intro G X hI hZ hV hR
  have hRet := fun hv => hZ rfl r hv rfl
  refine (show TM G r (mX5_holdsMiddle x0 x1 x2) [] 0 0 0 [(0, .int x0), (1, .int x1), (2, .int x2)] [] from ?_) hm
  clear hm hI hZ hV hR
  unfold mX5_holdsMiddle
  refine tm_iload_n X 0 dX5_holdsMiddle_0 rfl rfl ?_
  refine tm_iload_n X 1 dX5_holdsMiddle_1 rfl rfl ?_
  refine tm_iload_n X 2 dX5_holdsMiddle_2 rfl rfl ?_
  refine tm_cl1 (fun r1 e2 => ?_)
  refine tm_callSi (As := [.int x0, .int x1, .int x2]) (rest := []) X (ctX5_round3 l D dA x0 x1 x2 r1 e2) (lw_S q1669 q1670 q122 q1671) cyX5_round3 rfl ⟨(Nat.le_of_ble_eq_true rfl), (Nat.le_of_ble_eq_true rfl)⟩ (Nat.le_of_ble_eq_true rfl) dX5_holdsMiddle_3 ⟨Nat.le_of_ble_eq_true rfl, Nat.le_of_ble_eq_true rfl⟩ rfl ?_
  refine tm_if_ne X 11 dX5_holdsMiddle_6 rfl ?_ ?_
  · skip
    refine tm_iload_n X 0 dX5_holdsMiddle_11 rfl rfl ?_
    refine tm_iload_n X 1 dX5_holdsMiddle_12 rfl rfl ?_
    refine tm_cl1 (fun r3 e4 => ?_)
    refine tm_callSi (As := [.int x0, .int x1]) (rest := []) X (ctX5_middleSide l D dA x0 x1 r3 e4) (lw_S q1672 q1673 q122 q1674) cyX5_middleSide rfl ⟨(Nat.le_of_ble_eq_true rfl), (Nat.le_of_ble_eq_true rfl)⟩ (Nat.le_of_ble_eq_true rfl) dX5_holdsMiddle_13 ⟨Nat.le_of_ble_eq_true rfl, Nat.le_of_ble_eq_true rfl⟩ rfl ?_
    refine tm_istore_n X [(3, .int r3), (0, .int x0), (1, .int x1), (2, .int x2)] dX5_holdsMiddle_16 rfl (Nat.le_of_ble_eq_true rfl) rfl ?_
    refine tm_iload_n X 2 dX5_holdsMiddle_17 rfl rfl ?_
    refine tm_iload_n X 3 dX5_holdsMiddle_18 rfl rfl ?_
    refine tm_cl1 (fun r5 e6 => ?_)
    refine tm_callSi (As := [.int x1, .int x2]) (rest := []) X (ctX5_middleSide l D dA x1 x2 r5 e6) (lw_S q1672 q1673 q122 q1674) cyX5_middleSide rfl ⟨(Nat.le_of_ble_eq_true rfl), (Nat.le_of_ble_eq_true rfl)⟩ (Nat.le_of_ble_eq_true rfl) dX5_holdsMiddle_19 ⟨Nat.le_of_ble_eq_true rfl, Nat.le_of_ble_eq_true rfl⟩ rfl ?_
    refine tm_istore X [(4, .int r5), (3, .int r3), (0, .int x0), (1, .int x1), (2, .int x2)] dX5_holdsMiddle_22 (Nat.le_of_ble_eq_true rfl) rfl ?_
    refine tm_iload_n X 4 dX5_holdsMiddle_24 rfl rfl ?_
    refine tm_iload_n X 2 dX5_holdsMiddle_25 rfl rfl ?_
    refine tm_cl1 (fun r7 e8 => ?_)
    refine tm_callSi (As := [.int x2, .int x0]) (rest := []) X (ctX5_middleSide l D dA x2 x0 r7 e8) (lw_S q1672 q1673 q122 q1674) cyX5_middleSide rfl ⟨(Nat.le_of_ble_eq_true rfl), (Nat.le_of_ble_eq_true rfl)⟩ (Nat.le_of_ble_eq_true rfl) dX5_holdsMiddle_26 ⟨Nat.le_of_ble_eq_true rfl, Nat.le_of_ble_eq_true rfl⟩ rfl ?_
    refine tm_istore X [(5, .int r7), (4, .int r5), (3, .int r3), (0, .int x0), (1, .int x1), (2, .int x2)] dX5_holdsMiddle_29 (Nat.le_of_ble_eq_true rfl) rfl ?_
    refine tm_iload_n X 2 dX5_holdsMiddle_31 rfl rfl ?_
    refine tm_let (fun k => ∀ (s9 : Int32), TM G r (k s9) [] 0 0 64 [] [.int s9]) ?_ (fun k64 hk64 => ?_)
    · intro s9
      exact tm_retZ hRet dX5_holdsMiddle_64
    · skip
      refine tm_let (fun k => TM G r k [] 0 0 59 [] []) ?_ (fun k59 hk59 => ?_)
      · skip
        refine tm_iconst X (1 : Int32) dX5_holdsMiddle_59 (by decide) ?_
        refine tm_goto X 64 dX5_holdsMiddle_60 rfl ?_
        exact hk64 (1 : Int32)
      · skip
        refine tm_let (fun k => TM G r k [] 0 0 45 [(3, .int r3), (4, .int r5), (5, .int r7)] []) ?_ (fun k45 hk45 => ?_)
        · skip
          refine tm_iload_n X 0 dX5_holdsMiddle_45 rfl rfl ?_
          refine tm_let (fun k => TM G r k [] 0 0 63 [] []) ?_ (fun k63 hk63 => ?_)
          · skip
            refine tm_iconst X (0 : Int32) dX5_holdsMiddle_63 (by decide) ?_
            exact hk64 (0 : Int32)
          · skip
            refine tm_if_gt X 63 dX5_holdsMiddle_46 rfl ?_ ?_
            · skip
              refine tm_lv X [] rfl ?_
              exact hk63
            · skip
              refine tm_iload X 1 dX5_holdsMiddle_49 rfl ?_
              refine tm_if_gt X 63 dX5_holdsMiddle_51 rfl ?_ ?_
              · skip
                refine tm_lv X [] rfl ?_
                exact hk63
              · skip
                refine tm_iload X 2 dX5_holdsMiddle_54 rfl ?_
                refine tm_if_gt X 63 dX5_holdsMiddle_56 rfl ?_ ?_
                · skip
                  refine tm_lv X [] rfl ?_
                  exact hk63
                · skip
                  refine tm_lv X [] rfl ?_
                  exact hk59
        · skip
          refine tm_if_lt X 45 dX5_holdsMiddle_32 rfl ?_ ?_
          · skip
            refine tm_lv X [2, 1, 0] rfl ?_
            exact hk45
          · skip
            refine tm_iload X 1 dX5_holdsMiddle_35 rfl ?_
            refine tm_if_lt X 45 dX5_holdsMiddle_37 rfl ?_ ?_
            · skip
              refine tm_lv X [2, 1, 0] rfl ?_
              exact hk45
            · skip
              refine tm_iload X 0 dX5_holdsMiddle_40 rfl ?_
              refine tm_if_ge X 59 dX5_holdsMiddle_42 rfl ?_ ?_
              · skip
                refine tm_lv X [] rfl ?_
                exact hk59
              · skip
                refine tm_lv X [2, 1, 0] rfl ?_
                exact hk45
  · skip
    refine tm_iconst X (0 : Int32) dX5_holdsMiddle_9 (by decide) ?_
    exact tm_retZ hRet dX5_holdsMiddle_10
def mX5_tripods (h : Hp)  : Option (Int32 × Hp) :=
cl1 (mX5_laysTouching h) (fun h2 =>
fx FU (fun _ _ => none) (fun k8 (x1_3 : Int32) (x2_4 : Int32) =>
if (h2 300 50) ≤ x2_4 then (
some (x1_3, h2)) else (
nm ((x2_4 + (1 : Int32))) (fun v5 =>
fx FU (fun _ _ => none) (fun k20 (x1_6 : Int32) (x3_7 : Int32) =>
if (h2 300 50) ≤ x3_7 then (
k8 x1_6 (x2_4 + (1 : Int32))) else (
nm ((x3_7 + (1 : Int32))) (fun v8 =>
fx FU (fun _ _ => none) (fun k33 (x1_9 : Int32) (x4_10 : Int32) =>
if (h2 300 50) ≤ x4_10 then (
k20 x1_9 (x3_7 + (1 : Int32))) else (
ck x2_4 48 (
ck x3_7 48 (
ck x4_10 48 (
cl1 (mX5_holdsMiddle (h2 249 x2_4.toNatClampNeg) (h2 249 x3_7.toNatClampNeg) (h2 249 x4_10.toNatClampNeg)) (fun r11 =>
nm (fun (x1_13 : Int32) =>
k33 x1_13 (x4_10 + (1 : Int32))) (fun k71 =>
if r11 = 0 then (
k71 x1_9) else (
nm ((x1_9 + (1 : Int32))) (fun v14 =>
k71 v14))))))))) x1_6 v8))) x1_3 v5))) (0 : Int32) (0 : Int32))
theorem cyX5_tripods : Callee yX5_tripods 0 := by unfold Callee; decide +kernel
set_option maxHeartbeats 4000000 in
theorem ctX5_tripods (l : Launch) (D : va_G) (ad : Nat → Nat) (dA : Nat → ClassId) (h : Hp)  (r : Int32) (h' : Hp) (hm : mX5_tripods h = some (r, h')) : CT l yX5_tripods cX5_tripods 5 (some .int) D dA 6 141 0 0 (wM ad dA h) [.ref (ad 300)] (some (.int r)) (wM ad dA h') := by
  refine ct_open (by decide) (Nat.le_of_ble_eq_true rfl) ?_
  intro G X hI hZ hV hR
  have hRet := hI rfl r rfl
  refine (show TM G (r, h') (mX5_tripods h) (wM ad dA h) 0 0 0 [(0, .ref (ad 300))] [] from ?_) hm
  clear hm hI hZ hV hR
  unfold mX5_tripods
  refine tm_aload_n X 0 dX5_tripods_0 rfl rfl ?_
  refine tm_cl1 (fun h2 e1 => ?_)
  refine tm_callVv (As := []) (rest := []) (q0 := 0) X (ctX5_laysTouching l D ad dA h h2 e1) (lw_V q1662 q1664 qs94 q122 q1665) cyX5_laysTouching rfl rfl rfl ⟨(Nat.le_of_ble_eq_true rfl), (Nat.le_of_ble_eq_true rfl)⟩ (Nat.le_of_ble_eq_true rfl) dX5_tripods_1 ⟨Nat.le_of_ble_eq_true rfl, Nat.le_of_ble_eq_true rfl⟩ rfl ?_
  refine tm_iconst X (0 : Int32) dX5_tripods_4 (by decide) ?_
  refine tm_istore_n X [(1, .int (0 : Int32)), (0, .ref (ad 300))] dX5_tripods_5 rfl (Nat.le_of_ble_eq_true rfl) rfl ?_
  refine tm_iconst X (0 : Int32) dX5_tripods_6 (by decide) ?_
  refine tm_istore_n X [(2, .int (0 : Int32)), (1, .int (0 : Int32)), (0, .ref (ad 300))] dX5_tripods_7 rfl (Nat.le_of_ble_eq_true rfl) rfl ?_
  refine tm_lv X [2, 1, 0] rfl ?_
  refine fx_P (fun (k : Int32 → Int32 → Option (Int32 × Hp)) => ∀ (x1_3 : Int32) (x2_4 : Int32), TM G (r, h') (k x1_3 x2_4) (wM ad dA h2) 0 0 8 [(0, .ref (ad 300)), (1, .int x1_3), (2, .int x2_4)] []) (fun _ _ => tm_none) (fun k8 hk8 x1_3 x2_4 => ?_) FU (0 : Int32) (0 : Int32)
  refine tm_iload_n X 2 dX5_tripods_8 rfl rfl ?_
  refine tm_aload_n X 0 dX5_tripods_9 rfl rfl ?_
  refine tm_getI X (fiM_300_50 ad dA) in_X5 rfl (Nat.le_of_ble_eq_true rfl) q1237 rfl dX5_tripods_10 ?_
  refine tm_ic_ge X 89 dX5_tripods_13 rfl ?_ ?_
  · skip
    refine tm_iload_n X 1 dX5_tripods_89 rfl rfl ?_
    exact tm_retIH (wf := wM ad dA) hRet dX5_tripods_90
  · skip
    refine tm_iload_n X 2 dX5_tripods_16 rfl rfl ?_
    refine tm_iconst X (1 : Int32) dX5_tripods_17 (by decide) ?_
    refine tm_iadd X dX5_tripods_18 ?_
    refine tm_nmI (fun v5 => ?_)
    refine tm_istore_n X [(3, .int v5), (0, .ref (ad 300)), (1, .int x1_3), (2, .int x2_4)] dX5_tripods_19 rfl (Nat.le_of_ble_eq_true rfl) rfl ?_
    refine tm_lv X [1, 2, 3, 0] rfl ?_
    refine fx_P (fun (k : Int32 → Int32 → Option (Int32 × Hp)) => ∀ (x1_6 : Int32) (x3_7 : Int32), TM G (r, h') (k x1_6 x3_7) (wM ad dA h2) 0 0 20 [(0, .ref (ad 300)), (1, .int x1_6), (2, .int x2_4), (3, .int x3_7)] []) (fun _ _ => tm_none) (fun k20 hk20 x1_6 x3_7 => ?_) FU x1_3 v5
    refine tm_iload_n X 3 dX5_tripods_20 rfl rfl ?_
    refine tm_aload_n X 0 dX5_tripods_21 rfl rfl ?_
    refine tm_getI X (fiM_300_50 ad dA) in_X5 rfl (Nat.le_of_ble_eq_true rfl) q1237 rfl dX5_tripods_22 ?_
    refine tm_ic_ge X 83 dX5_tripods_25 rfl ?_ ?_
    · skip
      refine tm_iinc (v := (1 : Int32)) X 2 [(2, .int (x2_4 + (1 : Int32))), (0, .ref (ad 300)), (1, .int x1_6), (3, .int x3_7)] dX5_tripods_83 rfl (by decide) (Nat.le_of_ble_eq_true rfl) rfl ?_
      refine tm_goto X 8 dX5_tripods_86 rfl ?_
      refine tm_lv X [1, 2, 0] rfl ?_
      exact hk8 x1_6 (x2_4 + (1 : Int32))
    · skip
      refine tm_iload_n X 3 dX5_tripods_28 rfl rfl ?_
      refine tm_iconst X (1 : Int32) dX5_tripods_29 (by decide) ?_
      refine tm_iadd X dX5_tripods_30 ?_
      refine tm_nmI (fun v8 => ?_)
      refine tm_istore X [(4, .int v8), (0, .ref (ad 300)), (1, .int x1_6), (2, .int x2_4), (3, .int x3_7)] dX5_tripods_31 (Nat.le_of_ble_eq_true rfl) rfl ?_
      refine tm_lv X [1, 2, 3, 4, 0] rfl ?_
      refine fx_P (fun (k : Int32 → Int32 → Option (Int32 × Hp)) => ∀ (x1_9 : Int32) (x4_10 : Int32), TM G (r, h') (k x1_9 x4_10) (wM ad dA h2) 0 0 33 [(0, .ref (ad 300)), (1, .int x1_9), (2, .int x2_4), (3, .int x3_7), (4, .int x4_10)] []) (fun _ _ => tm_none) (fun k33 hk33 x1_9 x4_10 => ?_) FU x1_6 v8
      refine tm_iload X 4 dX5_tripods_33 rfl ?_
      refine tm_aload_n X 0 dX5_tripods_35 rfl rfl ?_
      refine tm_getI X (fiM_300_50 ad dA) in_X5 rfl (Nat.le_of_ble_eq_true rfl) q1237 rfl dX5_tripods_36 ?_
      refine tm_ic_ge X 77 dX5_tripods_39 rfl ?_ ?_
      · skip
        refine tm_iinc (v := (1 : Int32)) X 3 [(3, .int (x3_7 + (1 : Int32))), (0, .ref (ad 300)), (1, .int x1_9), (2, .int x2_4), (4, .int x4_10)] dX5_tripods_77 rfl (by decide) (Nat.le_of_ble_eq_true rfl) rfl ?_
        refine tm_goto X 20 dX5_tripods_80 rfl ?_
        refine tm_lv X [1, 2, 3, 0] rfl ?_
        exact hk20 x1_9 (x3_7 + (1 : Int32))
      · skip
        refine tm_aload_n X 0 dX5_tripods_42 rfl rfl ?_
        refine tm_getR X (frM_300_49 ad dA h2) in_X5 rfl (Nat.le_of_ble_eq_true rfl) q1236 rfl dX5_tripods_43 ?_
        refine tm_iload_n X 2 dX5_tripods_46 rfl rfl ?_
        refine tm_iaload X (arM_249 ad dA) dX5_tripods_47 ?_
        refine tm_aload_n X 0 dX5_tripods_48 rfl rfl ?_
        refine tm_getR X (frM_300_49 ad dA h2) in_X5 rfl (Nat.le_of_ble_eq_true rfl) q1236 rfl dX5_tripods_49 ?_
        refine tm_iload_n X 3 dX5_tripods_52 rfl rfl ?_
        refine tm_iaload X (arM_249 ad dA) dX5_tripods_53 ?_
        refine tm_aload_n X 0 dX5_tripods_54 rfl rfl ?_
        refine tm_getR X (frM_300_49 ad dA h2) in_X5 rfl (Nat.le_of_ble_eq_true rfl) q1236 rfl dX5_tripods_55 ?_
        refine tm_iload X 4 dX5_tripods_58 rfl ?_
        refine tm_iaload X (arM_249 ad dA) dX5_tripods_60 ?_
        refine tm_cl1 (fun r11 e12 => ?_)
        refine tm_callSi (As := [.int (h2 249 x2_4.toNatClampNeg), .int (h2 249 x3_7.toNatClampNeg), .int (h2 249 x4_10.toNatClampNeg)]) (rest := []) X (ctX5_holdsMiddle l D dA (h2 249 x2_4.toNatClampNeg) (h2 249 x3_7.toNatClampNeg) (h2 249 x4_10.toNatClampNeg) r11 e12) (lw_S q1666 q1667 q122 q1668) cyX5_holdsMiddle rfl ⟨(Nat.le_of_ble_eq_true rfl), (Nat.le_of_ble_eq_true rfl)⟩ (Nat.le_of_ble_eq_true rfl) dX5_tripods_61 ⟨Nat.le_of_ble_eq_true rfl, Nat.le_of_ble_eq_true rfl⟩ rfl ?_
        refine tm_let (fun k => ∀ (x1_13 : Int32), TM G (r, h') (k x1_13) (wM ad dA h2) 0 0 71 [(0, .ref (ad 300)), (1, .int x1_13), (2, .int x2_4), (3, .int x3_7), (4, .int x4_10)] []) ?_ (fun k71 hk71 => ?_)
        · intro x1_13
          refine tm_iinc (v := (1 : Int32)) X 4 [(4, .int (x4_10 + (1 : Int32))), (0, .ref (ad 300)), (1, .int x1_13), (2, .int x2_4), (3, .int x3_7)] dX5_tripods_71 rfl (by decide) (Nat.le_of_ble_eq_true rfl) rfl ?_
          refine tm_goto X 33 dX5_tripods_74 rfl ?_
          refine tm_lv X [1, 2, 3, 4, 0] rfl ?_
          exact hk33 x1_13 (x4_10 + (1 : Int32))
        · skip
          refine tm_if_eq X 71 dX5_tripods_64 rfl ?_ ?_
          · skip
            exact hk71 x1_9
          · skip
            refine tm_iload_n X 1 dX5_tripods_67 rfl rfl ?_
            refine tm_iconst X (1 : Int32) dX5_tripods_68 (by decide) ?_
            refine tm_iadd X dX5_tripods_69 ?_
            refine tm_nmI (fun v14 => ?_)
            refine tm_istore_n X [(1, .int v14), (0, .ref (ad 300)), (2, .int x2_4), (3, .int x3_7), (4, .int x4_10)] dX5_tripods_70 rfl (Nat.le_of_ble_eq_true rfl) rfl ?_
            refine tm_lv X [1, 0, 2, 3, 4] rfl ?_
            exact hk71 v14
def mX5_isBetween (x0 : Int32) (x1 : Int32) : Option (Int32) :=
cl1 (mX5_middleSide x0 x1) (fun r1 =>
nm (fun (s3 : Int32) =>
bz s3 (some s3)) (fun k35 =>
nm (
k35 (0 : Int32)) (fun k34 =>
if r1 = 0 then (
cl1 (mX5_acrossOf x0) (fun r4 =>
cl1 (mX5_acrossOf x1) (fun r6 =>
cl1 (mX5_alongOf x0) (fun r8 =>
cl1 (mX5_alongOf x1) (fun r10 =>
if 0 ≤ ((r4 * r6) + (r8 * r10)) then (
k34) else (
k35 (1 : Int32))))))) else (
k34))))
theorem cyX5_isBetween : Callee yX5_isBetween 2 := by unfold Callee; decide +kernel
set_option maxHeartbeats 4000000 in
theorem ctX5_isBetween (l : Launch) (D : va_G) (dA : Nat → ClassId) (x0 : Int32) (x1 : Int32) (r : Int32) (hm : mX5_isBetween x0 x1 = some r) : CT l yX5_isBetween cX5_isBetween 2 (some .boolean) D dA 2 41 0 0 [] [.int x0, .int x1] (some (.int r)) [] := by
  refine ct_open (by decide) (Nat.le_of_ble_eq_true rfl) ?_
  intro G X hI hZ hV hR
  have hRet := fun hv => hZ rfl r hv rfl
  refine (show TM G r (mX5_isBetween x0 x1) [] 0 0 0 [(0, .int x0), (1, .int x1)] [] from ?_) hm
  clear hm hI hZ hV hR
  unfold mX5_isBetween
  refine tm_iload_n X 0 dX5_isBetween_0 rfl rfl ?_
  refine tm_iload_n X 1 dX5_isBetween_1 rfl rfl ?_
  refine tm_cl1 (fun r1 e2 => ?_)
  refine tm_callSi (As := [.int x0, .int x1]) (rest := []) X (ctX5_middleSide l D dA x0 x1 r1 e2) (lw_S q1672 q1673 q122 q1674) cyX5_middleSide rfl ⟨(Nat.le_of_ble_eq_true rfl), (Nat.le_of_ble_eq_true rfl)⟩ (Nat.le_of_ble_eq_true rfl) dX5_isBetween_2 ⟨Nat.le_of_ble_eq_true rfl, Nat.le_of_ble_eq_true rfl⟩ rfl ?_
  refine tm_let (fun k => ∀ (s3 : Int32), TM G r (k s3) [] 0 0 35 [] [.int s3]) ?_ (fun k35 hk35 => ?_)
  · intro s3
    exact tm_retZ hRet dX5_isBetween_35
  · skip
    refine tm_let (fun k => TM G r k [] 0 0 34 [] []) ?_ (fun k34 hk34 => ?_)
    · skip
      refine tm_iconst X (0 : Int32) dX5_isBetween_34 (by decide) ?_
      exact hk35 (0 : Int32)
    · skip
      refine tm_if_ne X 34 dX5_isBetween_5 rfl ?_ ?_
      · skip
        refine tm_lv X [] rfl ?_
        exact hk34
      · skip
        refine tm_iload_n X 0 dX5_isBetween_8 rfl rfl ?_
        refine tm_cl1 (fun r4 e5 => ?_)
        refine tm_callSi (As := [.int x0]) (rest := []) X (ctX5_acrossOf l D dA x0 r4 e5) (lw_S q1675 q1676 q122 q1677) cyX5_acrossOf rfl ⟨(Nat.le_of_ble_eq_true rfl), (Nat.le_of_ble_eq_true rfl)⟩ (Nat.le_of_ble_eq_true rfl) dX5_isBetween_9 ⟨Nat.le_of_ble_eq_true rfl, Nat.le_of_ble_eq_true rfl⟩ rfl ?_
        refine tm_iload_n X 1 dX5_isBetween_12 rfl rfl ?_
        refine tm_cl1 (fun r6 e7 => ?_)
        refine tm_callSi (As := [.int x1]) (rest := [.int r4]) X (ctX5_acrossOf l D dA x1 r6 e7) (lw_S q1675 q1676 q122 q1677) cyX5_acrossOf rfl ⟨(Nat.le_of_ble_eq_true rfl), (Nat.le_of_ble_eq_true rfl)⟩ (Nat.le_of_ble_eq_true rfl) dX5_isBetween_13 ⟨Nat.le_of_ble_eq_true rfl, Nat.le_of_ble_eq_true rfl⟩ rfl ?_
        refine tm_imul X dX5_isBetween_16 ?_
        refine tm_iload_n X 0 dX5_isBetween_17 rfl rfl ?_
        refine tm_cl1 (fun r8 e9 => ?_)
        refine tm_callSi (As := [.int x0]) (rest := [.int (r4 * r6)]) X (ctX5_alongOf l D dA x0 r8 e9) (lw_S q1678 q1679 q122 q1680) cyX5_alongOf rfl ⟨(Nat.le_of_ble_eq_true rfl), (Nat.le_of_ble_eq_true rfl)⟩ (Nat.le_of_ble_eq_true rfl) dX5_isBetween_18 ⟨Nat.le_of_ble_eq_true rfl, Nat.le_of_ble_eq_true rfl⟩ rfl ?_
        refine tm_iload_n X 1 dX5_isBetween_21 rfl rfl ?_
        refine tm_cl1 (fun r10 e11 => ?_)
        refine tm_callSi (As := [.int x1]) (rest := [.int r8, .int (r4 * r6)]) X (ctX5_alongOf l D dA x1 r10 e11) (lw_S q1678 q1679 q122 q1680) cyX5_alongOf rfl ⟨(Nat.le_of_ble_eq_true rfl), (Nat.le_of_ble_eq_true rfl)⟩ (Nat.le_of_ble_eq_true rfl) dX5_isBetween_22 ⟨Nat.le_of_ble_eq_true rfl, Nat.le_of_ble_eq_true rfl⟩ rfl ?_
        refine tm_imul X dX5_isBetween_25 ?_
        refine tm_iadd X dX5_isBetween_26 ?_
        refine tm_if_ge X 34 dX5_isBetween_27 rfl ?_ ?_
        · skip
          refine tm_lv X [] rfl ?_
          exact hk34
        · skip
          refine tm_iconst X (1 : Int32) dX5_isBetween_30 (by decide) ?_
          refine tm_goto X 35 dX5_isBetween_31 rfl ?_
          refine tm_lv X [] rfl ?_
          exact hk35 (1 : Int32)
def mX5_rocks (h : Hp)  : Option (Int32 × Hp) :=
cl2 (mX5_tripods h) (fun r2 h3 =>
fx FU (fun _ => none) (fun k7 (x2_4 : Int32) =>
if (h3 300 50) ≤ x2_4 then (
nm (fun (s5 : Int32) =>
some (s5, h3)) (fun k68 =>
if r2 ≤ 0 then (
k68 (1 : Int32)) else (
k68 (0 : Int32)))) else (
nm ((x2_4 + (1 : Int32))) (fun v6 =>
fx FU (fun _ => none) (fun k19 (x3_7 : Int32) =>
if (h3 300 50) ≤ x3_7 then (
k7 (x2_4 + (1 : Int32))) else (
ck x2_4 48 (
ck x3_7 48 (
cl1 (mX5_isBetween (h3 249 x2_4.toNatClampNeg) (h3 249 x3_7.toNatClampNeg)) (fun r8 =>
if r8 = 0 then (
k19 (x3_7 + (1 : Int32))) else (
some ((0 : Int32), h3))))))) v6))) (0 : Int32))
theorem cyX5_rocks : Callee yX5_rocks 0 := by unfold Callee; decide +kernel
set_option maxHeartbeats 4000000 in
theorem ctX5_rocks (l : Launch) (D : va_G) (ad : Nat → Nat) (dA : Nat → ClassId) (h : Hp)  (r : Int32) (h' : Hp) (hm : mX5_rocks h = some (r, h')) : CT l yX5_rocks cX5_rocks 4 (some .int) D dA 7 165 0 0 (wM ad dA h) [.ref (ad 300)] (some (.int r)) (wM ad dA h') := by
  refine ct_open (by decide) (Nat.le_of_ble_eq_true rfl) ?_
  intro G X hI hZ hV hR
  have hRet := hI rfl r rfl
  refine (show TM G (r, h') (mX5_rocks h) (wM ad dA h) 0 0 0 [(0, .ref (ad 300))] [] from ?_) hm
  clear hm hI hZ hV hR
  unfold mX5_rocks
  refine tm_aload_n X 0 dX5_rocks_0 rfl rfl ?_
  refine tm_cl2 (fun r2 h3 e1 => ?_)
  refine tm_callVi (As := []) (rest := []) (q0 := 0) X (ctX5_tripods l D ad dA h r2 h3 e1) (lw_V q1685 q1659 q1660 q122 q1661) cyX5_tripods rfl rfl rfl ⟨(Nat.le_of_ble_eq_true rfl), (Nat.le_of_ble_eq_true rfl)⟩ (Nat.le_of_ble_eq_true rfl) dX5_rocks_1 ⟨Nat.le_of_ble_eq_true rfl, Nat.le_of_ble_eq_true rfl⟩ rfl ?_
  refine tm_istore_n X [(1, .int r2), (0, .ref (ad 300))] dX5_rocks_4 rfl (Nat.le_of_ble_eq_true rfl) rfl ?_
  refine tm_iconst X (0 : Int32) dX5_rocks_5 (by decide) ?_
  refine tm_istore_n X [(2, .int (0 : Int32)), (1, .int r2), (0, .ref (ad 300))] dX5_rocks_6 rfl (Nat.le_of_ble_eq_true rfl) rfl ?_
  refine tm_lv X [2, 1, 0] rfl ?_
  refine fx_P (fun (k : Int32 → Option (Int32 × Hp)) => ∀ (x2_4 : Int32), TM G (r, h') (k x2_4) (wM ad dA h3) 0 0 7 [(0, .ref (ad 300)), (1, .int r2), (2, .int x2_4)] []) (fun _ => tm_none) (fun k7 hk7 x2_4 => ?_) FU (0 : Int32)
  refine tm_iload_n X 2 dX5_rocks_7 rfl rfl ?_
  refine tm_aload_n X 0 dX5_rocks_8 rfl rfl ?_
  refine tm_getI X (fiM_300_50 ad dA) in_X5 rfl (Nat.le_of_ble_eq_true rfl) q1237 rfl dX5_rocks_9 ?_
  refine tm_ic_ge X 59 dX5_rocks_12 rfl ?_ ?_
  · skip
    refine tm_iload_n X 1 dX5_rocks_59 rfl rfl ?_
    refine tm_let (fun k => ∀ (s5 : Int32), TM G (r, h') (k s5) (wM ad dA h3) 0 0 68 [] [.int s5]) ?_ (fun k68 hk68 => ?_)
    · intro s5
      exact tm_retIH (wf := wM ad dA) hRet dX5_rocks_68
    · skip
      refine tm_if_le X 67 dX5_rocks_60 rfl ?_ ?_
      · skip
        refine tm_iconst X (1 : Int32) dX5_rocks_67 (by decide) ?_
        refine tm_lv X [] rfl ?_
        exact hk68 (1 : Int32)
      · skip
        refine tm_iconst X (0 : Int32) dX5_rocks_63 (by decide) ?_
        refine tm_goto X 68 dX5_rocks_64 rfl ?_
        refine tm_lv X [] rfl ?_
        exact hk68 (0 : Int32)
  · skip
    refine tm_iload_n X 2 dX5_rocks_15 rfl rfl ?_
    refine tm_iconst X (1 : Int32) dX5_rocks_16 (by decide) ?_
    refine tm_iadd X dX5_rocks_17 ?_
    refine tm_nmI (fun v6 => ?_)
    refine tm_istore_n X [(3, .int v6), (0, .ref (ad 300)), (1, .int r2), (2, .int x2_4)] dX5_rocks_18 rfl (Nat.le_of_ble_eq_true rfl) rfl ?_
    refine tm_lv X [1, 2, 3, 0] rfl ?_
    refine fx_P (fun (k : Int32 → Option (Int32 × Hp)) => ∀ (x3_7 : Int32), TM G (r, h') (k x3_7) (wM ad dA h3) 0 0 19 [(0, .ref (ad 300)), (1, .int r2), (2, .int x2_4), (3, .int x3_7)] []) (fun _ => tm_none) (fun k19 hk19 x3_7 => ?_) FU v6
    refine tm_iload_n X 3 dX5_rocks_19 rfl rfl ?_
    refine tm_aload_n X 0 dX5_rocks_20 rfl rfl ?_
    refine tm_getI X (fiM_300_50 ad dA) in_X5 rfl (Nat.le_of_ble_eq_true rfl) q1237 rfl dX5_rocks_21 ?_
    refine tm_ic_ge X 53 dX5_rocks_24 rfl ?_ ?_
    · skip
      refine tm_iinc (v := (1 : Int32)) X 2 [(2, .int (x2_4 + (1 : Int32))), (0, .ref (ad 300)), (1, .int r2), (3, .int x3_7)] dX5_rocks_53 rfl (by decide) (Nat.le_of_ble_eq_true rfl) rfl ?_
      refine tm_goto X 7 dX5_rocks_56 rfl ?_
      refine tm_lv X [1, 2, 0] rfl ?_
      exact hk7 (x2_4 + (1 : Int32))
    · skip
      refine tm_aload_n X 0 dX5_rocks_27 rfl rfl ?_
      refine tm_getR X (frM_300_49 ad dA h3) in_X5 rfl (Nat.le_of_ble_eq_true rfl) q1236 rfl dX5_rocks_28 ?_
      refine tm_iload_n X 2 dX5_rocks_31 rfl rfl ?_
      refine tm_iaload X (arM_249 ad dA) dX5_rocks_32 ?_
      refine tm_aload_n X 0 dX5_rocks_33 rfl rfl ?_
      refine tm_getR X (frM_300_49 ad dA h3) in_X5 rfl (Nat.le_of_ble_eq_true rfl) q1236 rfl dX5_rocks_34 ?_
      refine tm_iload_n X 3 dX5_rocks_37 rfl rfl ?_
      refine tm_iaload X (arM_249 ad dA) dX5_rocks_38 ?_
      refine tm_cl1 (fun r8 e9 => ?_)
      refine tm_callSi (As := [.int (h3 249 x2_4.toNatClampNeg), .int (h3 249 x3_7.toNatClampNeg)]) (rest := []) X (ctX5_isBetween l D dA (h3 249 x2_4.toNatClampNeg) (h3 249 x3_7.toNatClampNeg) r8 e9) (lw_S q1686 q1687 q122 q1688) cyX5_isBetween rfl ⟨(Nat.le_of_ble_eq_true rfl), (Nat.le_of_ble_eq_true rfl)⟩ (Nat.le_of_ble_eq_true rfl) dX5_rocks_39 ⟨Nat.le_of_ble_eq_true rfl, Nat.le_of_ble_eq_true rfl⟩ rfl ?_
      refine tm_if_eq X 47 dX5_rocks_42 rfl ?_ ?_
      · skip
        refine tm_iinc (v := (1 : Int32)) X 3 [(3, .int (x3_7 + (1 : Int32))), (0, .ref (ad 300)), (1, .int r2), (2, .int x2_4)] dX5_rocks_47 rfl (by decide) (Nat.le_of_ble_eq_true rfl) rfl ?_
        refine tm_goto X 19 dX5_rocks_50 rfl ?_
        refine tm_lv X [1, 2, 3, 0] rfl ?_
        exact hk19 (x3_7 + (1 : Int32))
      · skip
        refine tm_iconst X (0 : Int32) dX5_rocks_45 (by decide) ?_
        exact tm_retIH (wf := wM ad dA) hRet dX5_rocks_46
def mX5_isEdge (h : Hp) (x1 : Int32) (x2 : Int32) : Option (Int32) :=
fx FU (fun _ => none) (fun k2 (x3_1 : Int32) =>
if (h 300 50) ≤ x3_1 then (
nm (fun (s2 : Int32) =>
bz s2 (some s2)) (fun k111 =>
if x1 = x2 then (
k111 (0 : Int32)) else (
k111 (1 : Int32)))) else (
ck x3_1 48 (
nm ((h 249 x3_1.toNatClampNeg)) (fun v3 =>
cl1 (mX5_round3 x1 x2 v3) (fun r4 =>
if 0 ≤ r4 then (
nm ((((jrem x1 (8 : Int32)) - (jrem v3 (8 : Int32))) * ((jrem x2 (8 : Int32)) - (jrem v3 (8 : Int32))))) (fun v6 =>
nm ((((x1 / (8 : Int32)) - (v3 / (8 : Int32))) * ((x2 / (8 : Int32)) - (v3 / (8 : Int32))))) (fun v7 =>
nm (
k2 (x3_1 + (1 : Int32))) (fun k95 =>
if r4 = 0 then (
if (v6 + v7) ≤ 0 then (
k95) else (
bz (0 : Int32) (some (0 : Int32)))) else (
k95))))) else (
bz (0 : Int32) (some (0 : Int32)))))))) (0 : Int32)
theorem cyX5_isEdge : Callee yX5_isEdge 2 := by unfold Callee; decide +kernel
set_option maxHeartbeats 4000000 in
theorem ctX5_isEdge (l : Launch) (D : va_G) (ad : Nat → Nat) (dA : Nat → ClassId) (h : Hp) (x1 : Int32) (x2 : Int32) (r : Int32) (hm : mX5_isEdge h x1 x2 = some r) : CT l yX5_isEdge cX5_isEdge 8 (some .boolean) D dA 1 26 0 0 (wM ad dA h) [.ref (ad 300), .int x1, .int x2] (some (.int r)) (wM ad dA h) := by
  refine ct_open (by decide) (Nat.le_of_ble_eq_true rfl) ?_
  intro G X hI hZ hV hR
  have hRet := fun hv => hZ rfl r hv rfl
  refine (show TM G r (mX5_isEdge h x1 x2) (wM ad dA h) 0 0 0 [(0, .ref (ad 300)), (1, .int x1), (2, .int x2)] [] from ?_) hm
  clear hm hI hZ hV hR
  unfold mX5_isEdge
  refine tm_iconst X (0 : Int32) dX5_isEdge_0 (by decide) ?_
  refine tm_istore_n X [(3, .int (0 : Int32)), (0, .ref (ad 300)), (1, .int x1), (2, .int x2)] dX5_isEdge_1 rfl (Nat.le_of_ble_eq_true rfl) rfl ?_
  refine tm_lv X [1, 2, 3, 0] rfl ?_
  refine fx_P (fun (k : Int32 → Option (Int32)) => ∀ (x3_1 : Int32), TM G r (k x3_1) (wM ad dA h) 0 0 2 [(0, .ref (ad 300)), (1, .int x1), (2, .int x2), (3, .int x3_1)] []) (fun _ => tm_none) (fun k2 hk2 x3_1 => ?_) FU (0 : Int32)
  refine tm_iload_n X 3 dX5_isEdge_2 rfl rfl ?_
  refine tm_aload_n X 0 dX5_isEdge_3 rfl rfl ?_
  refine tm_getI X (fiM_300_50 ad dA) in_X5 rfl (Nat.le_of_ble_eq_true rfl) q1237 rfl dX5_isEdge_4 ?_
  refine tm_ic_ge X 101 dX5_isEdge_7 rfl ?_ ?_
  · skip
    refine tm_iload_n X 1 dX5_isEdge_101 rfl rfl ?_
    refine tm_iload_n X 2 dX5_isEdge_102 rfl rfl ?_
    refine tm_let (fun k => ∀ (s2 : Int32), TM G r (k s2) (wM ad dA h) 0 0 111 [] [.int s2]) ?_ (fun k111 hk111 => ?_)
    · intro s2
      exact tm_retZ hRet dX5_isEdge_111
    · skip
      refine tm_ic_eq X 110 dX5_isEdge_103 rfl ?_ ?_
      · skip
        refine tm_iconst X (0 : Int32) dX5_isEdge_110 (by decide) ?_
        refine tm_lv X [] rfl ?_
        exact hk111 (0 : Int32)
      · skip
        refine tm_iconst X (1 : Int32) dX5_isEdge_106 (by decide) ?_
        refine tm_goto X 111 dX5_isEdge_107 rfl ?_
        refine tm_lv X [] rfl ?_
        exact hk111 (1 : Int32)
  · skip
    refine tm_aload_n X 0 dX5_isEdge_10 rfl rfl ?_
    refine tm_getR X (frM_300_49 ad dA h) in_X5 rfl (Nat.le_of_ble_eq_true rfl) q1236 rfl dX5_isEdge_11 ?_
    refine tm_iload_n X 3 dX5_isEdge_14 rfl rfl ?_
    refine tm_iaload X (arM_249 ad dA) dX5_isEdge_15 ?_
    refine tm_nmI (fun v3 => ?_)
    refine tm_istore X [(4, .int v3), (0, .ref (ad 300)), (1, .int x1), (2, .int x2), (3, .int x3_1)] dX5_isEdge_16 (Nat.le_of_ble_eq_true rfl) rfl ?_
    refine tm_iload_n X 2 dX5_isEdge_18 rfl rfl ?_
    refine tm_iload_n X 3 dX5_isEdge_19 rfl rfl ?_
    refine tm_iload X 0 dX5_isEdge_20 rfl ?_
    refine tm_cl1 (fun r4 e5 => ?_)
    refine tm_callSi (As := [.int x1, .int x2, .int v3]) (rest := []) X (ctX5_round3 l D dA x1 x2 v3 r4 e5) (lw_S q1669 q1670 q122 q1671) cyX5_round3 rfl ⟨(Nat.le_of_ble_eq_true rfl), (Nat.le_of_ble_eq_true rfl)⟩ (Nat.le_of_ble_eq_true rfl) dX5_isEdge_22 ⟨Nat.le_of_ble_eq_true rfl, Nat.le_of_ble_eq_true rfl⟩ rfl ?_
    refine tm_istore X [(5, .int r4), (4, .int v3), (0, .ref (ad 300)), (1, .int x1), (2, .int x2), (3, .int x3_1)] dX5_isEdge_25 (Nat.le_of_ble_eq_true rfl) rfl ?_
    refine tm_iload X 0 dX5_isEdge_27 rfl ?_
    refine tm_if_ge X 34 dX5_isEdge_29 rfl ?_ ?_
    · skip
      refine tm_iload_n X 3 dX5_isEdge_34 rfl rfl ?_
      refine tm_bipush X (8 : Int32) dX5_isEdge_35 (by decide) ?_
      refine tm_irem X dX5_isEdge_37 (by decide) ?_
      refine tm_iload X 1 dX5_isEdge_38 rfl ?_
      refine tm_bipush X (8 : Int32) dX5_isEdge_40 (by decide) ?_
      refine tm_irem X dX5_isEdge_42 (by decide) ?_
      refine tm_isub X dX5_isEdge_43 ?_
      refine tm_iload_n X 4 dX5_isEdge_44 rfl rfl ?_
      refine tm_bipush X (8 : Int32) dX5_isEdge_45 (by decide) ?_
      refine tm_irem X dX5_isEdge_47 (by decide) ?_
      refine tm_iload X 1 dX5_isEdge_48 rfl ?_
      refine tm_bipush X (8 : Int32) dX5_isEdge_50 (by decide) ?_
      refine tm_irem X dX5_isEdge_52 (by decide) ?_
      refine tm_isub X dX5_isEdge_53 ?_
      refine tm_imul X dX5_isEdge_54 ?_
      refine tm_nmI (fun v6 => ?_)
      refine tm_istore X [(6, .int v6), (5, .int r4), (4, .int v3), (0, .ref (ad 300)), (1, .int x1), (2, .int x2), (3, .int x3_1)] dX5_isEdge_55 (Nat.le_of_ble_eq_true rfl) rfl ?_
      refine tm_iload_n X 4 dX5_isEdge_57 rfl rfl ?_
      refine tm_bipush X (8 : Int32) dX5_isEdge_58 (by decide) ?_
      refine tm_idiv X dX5_isEdge_60 (by decide) ?_
      refine tm_iload X 2 dX5_isEdge_61 rfl ?_
      refine tm_bipush X (8 : Int32) dX5_isEdge_63 (by decide) ?_
      refine tm_idiv X dX5_isEdge_65 (by decide) ?_
      refine tm_isub X dX5_isEdge_66 ?_
      refine tm_iload_n X 5 dX5_isEdge_67 rfl rfl ?_
      refine tm_bipush X (8 : Int32) dX5_isEdge_68 (by decide) ?_
      refine tm_idiv X dX5_isEdge_70 (by decide) ?_
      refine tm_iload X 2 dX5_isEdge_71 rfl ?_
      refine tm_bipush X (8 : Int32) dX5_isEdge_73 (by decide) ?_
      refine tm_idiv X dX5_isEdge_75 (by decide) ?_
      refine tm_isub X dX5_isEdge_76 ?_
      refine tm_imul X dX5_isEdge_77 ?_
      refine tm_nmI (fun v7 => ?_)
      refine tm_istore X [(7, .int v7), (6, .int v6), (5, .int r4), (4, .int v3), (0, .ref (ad 300)), (1, .int x1), (2, .int x2), (3, .int x3_1)] dX5_isEdge_78 (Nat.le_of_ble_eq_true rfl) rfl ?_
      refine tm_iload X 2 dX5_isEdge_80 rfl ?_
      refine tm_let (fun k => TM G r k (wM ad dA h) 0 0 95 [(0, .ref (ad 300)), (1, .int x1), (2, .int x2), (3, .int x3_1)] []) ?_ (fun k95 hk95 => ?_)
      · skip
        refine tm_iinc (v := (1 : Int32)) X 3 [(3, .int (x3_1 + (1 : Int32))), (0, .ref (ad 300)), (1, .int x1), (2, .int x2)] dX5_isEdge_95 rfl (by decide) (Nat.le_of_ble_eq_true rfl) rfl ?_
        refine tm_goto X 2 dX5_isEdge_98 rfl ?_
        refine tm_lv X [1, 2, 3, 0] rfl ?_
        exact hk2 (x3_1 + (1 : Int32))
      · skip
        refine tm_if_ne X 95 dX5_isEdge_82 rfl ?_ ?_
        · skip
          refine tm_lv X [4, 5, 6, 7] rfl ?_
          exact hk95
        · skip
          refine tm_iload X 1 dX5_isEdge_85 rfl ?_
          refine tm_iload X 0 dX5_isEdge_87 rfl ?_
          refine tm_iadd X dX5_isEdge_89 ?_
          refine tm_if_le X 95 dX5_isEdge_90 rfl ?_ ?_
          · skip
            refine tm_lv X [4, 5, 6, 7] rfl ?_
            exact hk95
          · skip
            refine tm_iconst X (0 : Int32) dX5_isEdge_93 (by decide) ?_
            exact tm_retZ hRet dX5_isEdge_94
    · skip
      refine tm_iconst X (0 : Int32) dX5_isEdge_32 (by decide) ?_
      exact tm_retZ hRet dX5_isEdge_33
def mX5_figure (h : Hp)  : Option (Int32 × Hp) :=
cl1 (mX5_laysTouching h) (fun h2 =>
fx FU (fun _ _ => none) (fun k8 (x1_3 : Int32) (x2_4 : Int32) =>
if (h2 300 50) ≤ x2_4 then (
some (x1_3, h2)) else (
fx FU (fun _ _ => none) (fun k18 (x1_5 : Int32) (x3_6 : Int32) =>
if (h2 300 50) ≤ x3_6 then (
k8 x1_5 (x2_4 + (1 : Int32))) else (
ck x2_4 48 (
nm ((h2 249 x2_4.toNatClampNeg)) (fun v7 =>
ck x3_6 48 (
nm ((h2 249 x3_6.toNatClampNeg)) (fun v8 =>
cl1 (mX5_isEdge h2 v7 v8) (fun r10 =>
nm (fun (x1_11 : Int32) =>
k18 x1_11 (x3_6 + (1 : Int32))) (fun k79 =>
if r10 = 0 then (
k79 x1_5) else (
nm (((x1_5 + ((jrem v7 (8 : Int32)) * (v8 / (8 : Int32)))) - ((v7 / (8 : Int32)) * (jrem v8 (8 : Int32))))) (fun v12 =>
k79 v12)))))))))) x1_3 (0 : Int32))) (0 : Int32) (0 : Int32))
theorem cyX5_figure : Callee yX5_figure 0 := by unfold Callee; decide +kernel
set_option maxHeartbeats 4000000 in
theorem ctX5_figure (l : Launch) (D : va_G) (ad : Nat → Nat) (dA : Nat → ClassId) (h : Hp)  (r : Int32) (h' : Hp) (hm : mX5_figure h = some (r, h')) : CT l yX5_figure cX5_figure 6 (some .int) D dA 6 141 0 0 (wM ad dA h) [.ref (ad 300)] (some (.int r)) (wM ad dA h') := by
  refine ct_open (by decide) (Nat.le_of_ble_eq_true rfl) ?_
  intro G X hI hZ hV hR
  have hRet := hI rfl r rfl
  refine (show TM G (r, h') (mX5_figure h) (wM ad dA h) 0 0 0 [(0, .ref (ad 300))] [] from ?_) hm
  clear hm hI hZ hV hR
  unfold mX5_figure
  refine tm_aload_n X 0 dX5_figure_0 rfl rfl ?_
  refine tm_cl1 (fun h2 e1 => ?_)
  refine tm_callVv (As := []) (rest := []) (q0 := 0) X (ctX5_laysTouching l D ad dA h h2 e1) (lw_V q1662 q1664 qs94 q122 q1665) cyX5_laysTouching rfl rfl rfl ⟨(Nat.le_of_ble_eq_true rfl), (Nat.le_of_ble_eq_true rfl)⟩ (Nat.le_of_ble_eq_true rfl) dX5_figure_1 ⟨Nat.le_of_ble_eq_true rfl, Nat.le_of_ble_eq_true rfl⟩ rfl ?_
  refine tm_iconst X (0 : Int32) dX5_figure_4 (by decide) ?_
  refine tm_istore_n X [(1, .int (0 : Int32)), (0, .ref (ad 300))] dX5_figure_5 rfl (Nat.le_of_ble_eq_true rfl) rfl ?_
  refine tm_iconst X (0 : Int32) dX5_figure_6 (by decide) ?_
  refine tm_istore_n X [(2, .int (0 : Int32)), (1, .int (0 : Int32)), (0, .ref (ad 300))] dX5_figure_7 rfl (Nat.le_of_ble_eq_true rfl) rfl ?_
  refine tm_lv X [2, 1, 0] rfl ?_
  refine fx_P (fun (k : Int32 → Int32 → Option (Int32 × Hp)) => ∀ (x1_3 : Int32) (x2_4 : Int32), TM G (r, h') (k x1_3 x2_4) (wM ad dA h2) 0 0 8 [(0, .ref (ad 300)), (1, .int x1_3), (2, .int x2_4)] []) (fun _ _ => tm_none) (fun k8 hk8 x1_3 x2_4 => ?_) FU (0 : Int32) (0 : Int32)
  refine tm_iload_n X 2 dX5_figure_8 rfl rfl ?_
  refine tm_aload_n X 0 dX5_figure_9 rfl rfl ?_
  refine tm_getI X (fiM_300_50 ad dA) in_X5 rfl (Nat.le_of_ble_eq_true rfl) q1237 rfl dX5_figure_10 ?_
  refine tm_ic_ge X 91 dX5_figure_13 rfl ?_ ?_
  · skip
    refine tm_iload_n X 1 dX5_figure_91 rfl rfl ?_
    exact tm_retIH (wf := wM ad dA) hRet dX5_figure_92
  · skip
    refine tm_iconst X (0 : Int32) dX5_figure_16 (by decide) ?_
    refine tm_istore_n X [(3, .int (0 : Int32)), (0, .ref (ad 300)), (1, .int x1_3), (2, .int x2_4)] dX5_figure_17 rfl (Nat.le_of_ble_eq_true rfl) rfl ?_
    refine tm_lv X [1, 2, 3, 0] rfl ?_
    refine fx_P (fun (k : Int32 → Int32 → Option (Int32 × Hp)) => ∀ (x1_5 : Int32) (x3_6 : Int32), TM G (r, h') (k x1_5 x3_6) (wM ad dA h2) 0 0 18 [(0, .ref (ad 300)), (1, .int x1_5), (2, .int x2_4), (3, .int x3_6)] []) (fun _ _ => tm_none) (fun k18 hk18 x1_5 x3_6 => ?_) FU x1_3 (0 : Int32)
    refine tm_iload_n X 3 dX5_figure_18 rfl rfl ?_
    refine tm_aload_n X 0 dX5_figure_19 rfl rfl ?_
    refine tm_getI X (fiM_300_50 ad dA) in_X5 rfl (Nat.le_of_ble_eq_true rfl) q1237 rfl dX5_figure_20 ?_
    refine tm_ic_ge X 85 dX5_figure_23 rfl ?_ ?_
    · skip
      refine tm_iinc (v := (1 : Int32)) X 2 [(2, .int (x2_4 + (1 : Int32))), (0, .ref (ad 300)), (1, .int x1_5), (3, .int x3_6)] dX5_figure_85 rfl (by decide) (Nat.le_of_ble_eq_true rfl) rfl ?_
      refine tm_goto X 8 dX5_figure_88 rfl ?_
      refine tm_lv X [1, 2, 0] rfl ?_
      exact hk8 x1_5 (x2_4 + (1 : Int32))
    · skip
      refine tm_aload_n X 0 dX5_figure_26 rfl rfl ?_
      refine tm_getR X (frM_300_49 ad dA h2) in_X5 rfl (Nat.le_of_ble_eq_true rfl) q1236 rfl dX5_figure_27 ?_
      refine tm_iload_n X 2 dX5_figure_30 rfl rfl ?_
      refine tm_iaload X (arM_249 ad dA) dX5_figure_31 ?_
      refine tm_nmI (fun v7 => ?_)
      refine tm_istore X [(4, .int v7), (0, .ref (ad 300)), (1, .int x1_5), (2, .int x2_4), (3, .int x3_6)] dX5_figure_32 (Nat.le_of_ble_eq_true rfl) rfl ?_
      refine tm_aload_n X 1 dX5_figure_34 rfl rfl ?_
      refine tm_getR X (frM_300_49 ad dA h2) in_X5 rfl (Nat.le_of_ble_eq_true rfl) q1236 rfl dX5_figure_35 ?_
      refine tm_iload_n X 4 dX5_figure_38 rfl rfl ?_
      refine tm_iaload X (arM_249 ad dA) dX5_figure_39 ?_
      refine tm_nmI (fun v8 => ?_)
      refine tm_istore X [(5, .int v8), (4, .int v7), (0, .ref (ad 300)), (1, .int x1_5), (2, .int x2_4), (3, .int x3_6)] dX5_figure_40 (Nat.le_of_ble_eq_true rfl) rfl ?_
      refine tm_aload_n X 2 dX5_figure_42 rfl rfl ?_
      refine tm_iload X 1 dX5_figure_43 rfl ?_
      refine tm_iload X 0 dX5_figure_45 rfl ?_
      refine tm_cl1 (fun r10 e9 => ?_)
      refine tm_callVi (As := [.int v7, .int v8]) (rest := []) (q0 := 0) X (ctX5_isEdge l D ad dA h2 v7 v8 r10 e9) (lw_V q1693 q1695 qs95 q122 q1696) cyX5_isEdge rfl rfl rfl ⟨(Nat.le_of_ble_eq_true rfl), (Nat.le_of_ble_eq_true rfl)⟩ (Nat.le_of_ble_eq_true rfl) dX5_figure_47 ⟨Nat.le_of_ble_eq_true rfl, Nat.le_of_ble_eq_true rfl⟩ rfl ?_
      refine tm_let (fun k => ∀ (x1_11 : Int32), TM G (r, h') (k x1_11) (wM ad dA h2) 0 0 79 [(0, .ref (ad 300)), (1, .int x1_11), (2, .int x2_4), (3, .int x3_6)] []) ?_ (fun k79 hk79 => ?_)
      · intro x1_11
        refine tm_iinc (v := (1 : Int32)) X 3 [(3, .int (x3_6 + (1 : Int32))), (0, .ref (ad 300)), (1, .int x1_11), (2, .int x2_4)] dX5_figure_79 rfl (by decide) (Nat.le_of_ble_eq_true rfl) rfl ?_
        refine tm_goto X 18 dX5_figure_82 rfl ?_
        refine tm_lv X [1, 2, 3, 0] rfl ?_
        exact hk18 x1_11 (x3_6 + (1 : Int32))
      · skip
        refine tm_if_eq X 79 dX5_figure_50 rfl ?_ ?_
        · skip
          refine tm_lv X [2, 3, 4, 5] rfl ?_
          exact hk79 x1_5
        · skip
          refine tm_iload_n X 3 dX5_figure_53 rfl rfl ?_
          refine tm_iload X 1 dX5_figure_54 rfl ?_
          refine tm_bipush X (8 : Int32) dX5_figure_56 (by decide) ?_
          refine tm_irem X dX5_figure_58 (by decide) ?_
          refine tm_iload X 0 dX5_figure_59 rfl ?_
          refine tm_bipush X (8 : Int32) dX5_figure_61 (by decide) ?_
          refine tm_idiv X dX5_figure_63 (by decide) ?_
          refine tm_imul X dX5_figure_64 ?_
          refine tm_iadd X dX5_figure_65 ?_
          refine tm_iload X 1 dX5_figure_66 rfl ?_
          refine tm_bipush X (8 : Int32) dX5_figure_68 (by decide) ?_
          refine tm_idiv X dX5_figure_70 (by decide) ?_
          refine tm_iload X 0 dX5_figure_71 rfl ?_
          refine tm_bipush X (8 : Int32) dX5_figure_73 (by decide) ?_
          refine tm_irem X dX5_figure_75 (by decide) ?_
          refine tm_imul X dX5_figure_76 ?_
          refine tm_isub X dX5_figure_77 ?_
          refine tm_nmI (fun v12 => ?_)
          refine tm_istore_n X [(1, .int v12), (5, .int v8), (4, .int v7), (0, .ref (ad 300)), (2, .int x2_4), (3, .int x3_6)] dX5_figure_78 rfl (Nat.le_of_ble_eq_true rfl) rfl ?_
          refine tm_lv X [3, 0, 4, 5] rfl ?_
          exact hk79 v12
def mX5_touchLeaning (h : Hp) (x1 : Int32) : Option (Int32) :=
fx FU (fun _ _ _ => none) (fun k9 (x2_1 : Int32) (x3_2 : Int32) (x4_3 : Int32) =>
if (48 : Int32) ≤ x4_3 then (
some x3_2) else (
cl1 (mX5_restAt h x4_3) (fun r5 =>
nm ((r5 + (x1 * (jrem x4_3 (8 : Int32))))) (fun v6 =>
nm (fun (s7 : Int32) =>
cl1 (mX5_max x2_1 v6) (fun r8 =>
k9 r8 s7 (x4_3 + (1 : Int32)))) (fun k55 =>
if v6 ≤ x2_1 then (
if v6 = x2_1 then (
k55 (x3_2 + (1 : Int32))) else (
k55 x3_2)) else (
k55 (1 : Int32))))))) (-1000000 : Int32) (0 : Int32) (0 : Int32)
theorem cyX5_touchLeaning : Callee yX5_touchLeaning 1 := by unfold Callee; decide +kernel
set_option maxHeartbeats 4000000 in
theorem ctX5_touchLeaning (l : Launch) (D : va_G) (ad : Nat → Nat) (dA : Nat → ClassId) (h : Hp) (x1 : Int32) (r : Int32) (hm : mX5_touchLeaning h x1 = some r) : CT l yX5_touchLeaning cX5_touchLeaning 6 (some .int) D dA 2 42 0 0 (wM ad dA h) [.ref (ad 300), .int x1] (some (.int r)) (wM ad dA h) := by
  refine ct_open (by decide) (Nat.le_of_ble_eq_true rfl) ?_
  intro G X hI hZ hV hR
  have hRet := hI rfl r rfl
  refine (show TM G r (mX5_touchLeaning h x1) (wM ad dA h) 0 0 0 [(0, .ref (ad 300)), (1, .int x1)] [] from ?_) hm
  clear hm hI hZ hV hR
  unfold mX5_touchLeaning
  refine tm_ldcw X (-1000000 : Int32) q1705 dX5_touchLeaning_0 ?_
  refine tm_istore_n X [(2, .int (-1000000 : Int32)), (0, .ref (ad 300)), (1, .int x1)] dX5_touchLeaning_3 rfl (Nat.le_of_ble_eq_true rfl) rfl ?_
  refine tm_iconst X (0 : Int32) dX5_touchLeaning_4 (by decide) ?_
  refine tm_istore_n X [(3, .int (0 : Int32)), (2, .int (-1000000 : Int32)), (0, .ref (ad 300)), (1, .int x1)] dX5_touchLeaning_5 rfl (Nat.le_of_ble_eq_true rfl) rfl ?_
  refine tm_iconst X (0 : Int32) dX5_touchLeaning_6 (by decide) ?_
  refine tm_istore X [(4, .int (0 : Int32)), (3, .int (0 : Int32)), (2, .int (-1000000 : Int32)), (0, .ref (ad 300)), (1, .int x1)] dX5_touchLeaning_7 (Nat.le_of_ble_eq_true rfl) rfl ?_
  refine tm_lv X [3, 4, 2, 1, 0] rfl ?_
  refine fx_P (fun (k : Int32 → Int32 → Int32 → Option (Int32)) => ∀ (x2_1 : Int32) (x3_2 : Int32) (x4_3 : Int32), TM G r (k x2_1 x3_2 x4_3) (wM ad dA h) 0 0 9 [(0, .ref (ad 300)), (1, .int x1), (2, .int x2_1), (3, .int x3_2), (4, .int x4_3)] []) (fun _ _ _ => tm_none) (fun k9 hk9 x2_1 x3_2 x4_3 => ?_) FU (-1000000 : Int32) (0 : Int32) (0 : Int32)
  refine tm_iload X 4 dX5_touchLeaning_9 rfl ?_
  refine tm_bipush X (48 : Int32) dX5_touchLeaning_11 (by decide) ?_
  refine tm_ic_ge X 69 dX5_touchLeaning_13 rfl ?_ ?_
  · skip
    refine tm_iload_n X 3 dX5_touchLeaning_69 rfl rfl ?_
    exact tm_retI hRet dX5_touchLeaning_70
  · skip
    refine tm_aload_n X 0 dX5_touchLeaning_16 rfl rfl ?_
    refine tm_iload X 4 dX5_touchLeaning_17 rfl ?_
    refine tm_cl1 (fun r5 e4 => ?_)
    refine tm_callVi (As := [.int x4_3]) (rest := []) (q0 := 0) X (ctX5_restAt l D ad dA h x4_3 r5 e4) (lw_V q1611 q1613 qs88 q122 q1614) cyX5_restAt rfl rfl rfl ⟨(Nat.le_of_ble_eq_true rfl), (Nat.le_of_ble_eq_true rfl)⟩ (Nat.le_of_ble_eq_true rfl) dX5_touchLeaning_19 ⟨Nat.le_of_ble_eq_true rfl, Nat.le_of_ble_eq_true rfl⟩ rfl ?_
    refine tm_iload_n X 1 dX5_touchLeaning_22 rfl rfl ?_
    refine tm_iload X 4 dX5_touchLeaning_23 rfl ?_
    refine tm_bipush X (8 : Int32) dX5_touchLeaning_25 (by decide) ?_
    refine tm_irem X dX5_touchLeaning_27 (by decide) ?_
    refine tm_imul X dX5_touchLeaning_28 ?_
    refine tm_iadd X dX5_touchLeaning_29 ?_
    refine tm_nmI (fun v6 => ?_)
    refine tm_istore X [(5, .int v6), (0, .ref (ad 300)), (1, .int x1), (2, .int x2_1), (3, .int x3_2), (4, .int x4_3)] dX5_touchLeaning_30 (Nat.le_of_ble_eq_true rfl) rfl ?_
    refine tm_iload X 0 dX5_touchLeaning_32 rfl ?_
    refine tm_iload_n X 3 dX5_touchLeaning_34 rfl rfl ?_
    refine tm_let (fun k => ∀ (s7 : Int32), TM G r (k s7) (wM ad dA h) 0 0 55 [(0, .ref (ad 300)), (1, .int x1), (2, .int x2_1), (4, .int x4_3), (5, .int v6)] [.int s7]) ?_ (fun k55 hk55 => ?_)
    · intro s7
      refine tm_istore_n X [(3, .int s7), (0, .ref (ad 300)), (1, .int x1), (2, .int x2_1), (4, .int x4_3), (5, .int v6)] dX5_touchLeaning_55 rfl (Nat.le_of_ble_eq_true rfl) rfl ?_
      refine tm_iload_n X 3 dX5_touchLeaning_56 rfl rfl ?_
      refine tm_iload X 5 dX5_touchLeaning_57 rfl ?_
      refine tm_cl1 (fun r8 e9 => ?_)
      refine tm_callSi (As := [.int x2_1, .int v6]) (rest := []) X (ctX5_max l D dA x2_1 v6 r8 e9) (lw_S q1539 q1540 q122 q1541) cyX5_max rfl ⟨(Nat.le_of_ble_eq_true rfl), (Nat.le_of_ble_eq_true rfl)⟩ (Nat.le_of_ble_eq_true rfl) dX5_touchLeaning_59 ⟨Nat.le_of_ble_eq_true rfl, Nat.le_of_ble_eq_true rfl⟩ rfl ?_
      refine tm_istore_n X [(2, .int r8), (3, .int s7), (0, .ref (ad 300)), (1, .int x1), (4, .int x4_3), (5, .int v6)] dX5_touchLeaning_62 rfl (Nat.le_of_ble_eq_true rfl) rfl ?_
      refine tm_iinc (v := (1 : Int32)) X 4 [(4, .int (x4_3 + (1 : Int32))), (2, .int r8), (3, .int s7), (0, .ref (ad 300)), (1, .int x1), (5, .int v6)] dX5_touchLeaning_63 rfl (by decide) (Nat.le_of_ble_eq_true rfl) rfl ?_
      refine tm_goto X 9 dX5_touchLeaning_66 rfl ?_
      refine tm_lv X [3, 4, 1, 2, 0] rfl ?_
      exact hk9 r8 s7 (x4_3 + (1 : Int32))
    · skip
      refine tm_ic_le X 42 dX5_touchLeaning_35 rfl ?_ ?_
      · skip
        refine tm_iload X 0 dX5_touchLeaning_42 rfl ?_
        refine tm_iload_n X 3 dX5_touchLeaning_44 rfl rfl ?_
        refine tm_ic_ne X 54 dX5_touchLeaning_45 rfl ?_ ?_
        · skip
          refine tm_iload_n X 4 dX5_touchLeaning_54 rfl rfl ?_
          refine tm_lv X [1, 2, 3, 5, 0] rfl ?_
          exact hk55 x3_2
        · skip
          refine tm_iload_n X 4 dX5_touchLeaning_48 rfl rfl ?_
          refine tm_iconst X (1 : Int32) dX5_touchLeaning_49 (by decide) ?_
          refine tm_iadd X dX5_touchLeaning_50 ?_
          refine tm_goto X 55 dX5_touchLeaning_51 rfl ?_
          refine tm_lv X [1, 2, 3, 5, 0] rfl ?_
          exact hk55 (x3_2 + (1 : Int32))
      · skip
        refine tm_iconst X (1 : Int32) dX5_touchLeaning_38 (by decide) ?_
        refine tm_goto X 55 dX5_touchLeaning_39 rfl ?_
        refine tm_lv X [1, 2, 3, 5, 0] rfl ?_
        exact hk55 (1 : Int32)
def mX5_lean (h : Hp) (x1 : Int32) : Option (Int32) :=
cl1 (mX5_in x1 (0 : Int32) (1 : Int32)) (fun r1 =>
if r1 = 0 then (
some (-1 : Int32)) else (
fx FU (fun _ _ => none) (fun k15 (x2_3 : Int32) (x3_4 : Int32) =>
if (7 : Int32) ≤ x3_4 then (
nm (fun (s5 : Int32) =>
some s5) (fun k80 =>
if x1 = 0 then (
k80 (x2_3 + (3 : Int32))) else (
cl1 (mX5_touchLeaning h x2_3) (fun r7 =>
k80 r7)))) else (
nm (fun (s8 : Int32) =>
cl1 (mX5_touchLeaning h s8) (fun r10 =>
cl1 (mX5_touchLeaning h x2_3) (fun r12 =>
nm (fun (x2_13 : Int32) =>
k15 x2_13 (x3_4 + (1 : Int32))) (fun k59 =>
if r10 ≤ r12 then (
k59 x2_3) else (
k59 s8))))) (fun k40 =>
if (jrem x3_4 (2 : Int32)) = (1 : Int32) then (
k40 ((-(x3_4 + (1 : Int32))) / (2 : Int32))) else (
k40 (x3_4 / (2 : Int32)))))) (0 : Int32) (1 : Int32)))
theorem cyX5_lean : Callee yX5_lean 1 := by unfold Callee; decide +kernel
set_option maxHeartbeats 4000000 in
theorem ctX5_lean (l : Launch) (D : va_G) (ad : Nat → Nat) (dA : Nat → ClassId) (h : Hp) (x1 : Int32) (r : Int32) (hm : mX5_lean h x1 = some r) : CT l yX5_lean cX5_lean 5 (some .int) D dA 3 67 0 0 (wM ad dA h) [.ref (ad 300), .int x1] (some (.int r)) (wM ad dA h) := by
  refine ct_open (by decide) (Nat.le_of_ble_eq_true rfl) ?_
  intro G X hI hZ hV hR
  have hRet := hI rfl r rfl
  refine (show TM G r (mX5_lean h x1) (wM ad dA h) 0 0 0 [(0, .ref (ad 300)), (1, .int x1)] [] from ?_) hm
  clear hm hI hZ hV hR
  unfold mX5_lean
  refine tm_iload_n X 1 dX5_lean_0 rfl rfl ?_
  refine tm_iconst X (0 : Int32) dX5_lean_1 (by decide) ?_
  refine tm_iconst X (1 : Int32) dX5_lean_2 (by decide) ?_
  refine tm_cl1 (fun r1 e2 => ?_)
  refine tm_callSi (As := [.int x1, .int (0 : Int32), .int (1 : Int32)]) (rest := []) X (ctX5_in l D dA x1 (0 : Int32) (1 : Int32) r1 e2) (lw_S q1366 q1367 q122 q1368) cyX5_in rfl ⟨(Nat.le_of_ble_eq_true rfl), (Nat.le_of_ble_eq_true rfl)⟩ (Nat.le_of_ble_eq_true rfl) dX5_lean_3 ⟨Nat.le_of_ble_eq_true rfl, Nat.le_of_ble_eq_true rfl⟩ rfl ?_
  refine tm_if_ne X 11 dX5_lean_6 rfl ?_ ?_
  · skip
    refine tm_iconst X (0 : Int32) dX5_lean_11 (by decide) ?_
    refine tm_istore_n X [(2, .int (0 : Int32)), (0, .ref (ad 300)), (1, .int x1)] dX5_lean_12 rfl (Nat.le_of_ble_eq_true rfl) rfl ?_
    refine tm_iconst X (1 : Int32) dX5_lean_13 (by decide) ?_
    refine tm_istore_n X [(3, .int (1 : Int32)), (2, .int (0 : Int32)), (0, .ref (ad 300)), (1, .int x1)] dX5_lean_14 rfl (Nat.le_of_ble_eq_true rfl) rfl ?_
    refine tm_lv X [2, 3, 1, 0] rfl ?_
    refine fx_P (fun (k : Int32 → Int32 → Option (Int32)) => ∀ (x2_3 : Int32) (x3_4 : Int32), TM G r (k x2_3 x3_4) (wM ad dA h) 0 0 15 [(0, .ref (ad 300)), (1, .int x1), (2, .int x2_3), (3, .int x3_4)] []) (fun _ _ => tm_none) (fun k15 hk15 x2_3 x3_4 => ?_) FU (0 : Int32) (1 : Int32)
    refine tm_iload_n X 3 dX5_lean_15 rfl rfl ?_
    refine tm_bipush X (7 : Int32) dX5_lean_16 (by decide) ?_
    refine tm_ic_ge X 65 dX5_lean_18 rfl ?_ ?_
    · skip
      refine tm_iload_n X 1 dX5_lean_65 rfl rfl ?_
      refine tm_let (fun k => ∀ (s5 : Int32), TM G r (k s5) (wM ad dA h) 0 0 80 [] [.int s5]) ?_ (fun k80 hk80 => ?_)
      · intro s5
        exact tm_retI hRet dX5_lean_80
      · skip
        refine tm_if_ne X 75 dX5_lean_66 rfl ?_ ?_
        · skip
          refine tm_aload_n X 0 dX5_lean_75 rfl rfl ?_
          refine tm_iload_n X 2 dX5_lean_76 rfl rfl ?_
          refine tm_cl1 (fun r7 e6 => ?_)
          refine tm_callVi (As := [.int x2_3]) (rest := []) (q0 := 0) X (ctX5_touchLeaning l D ad dA h x2_3 r7 e6) (lw_V q1701 q1703 qs96 q122 q1704) cyX5_touchLeaning rfl rfl rfl ⟨(Nat.le_of_ble_eq_true rfl), (Nat.le_of_ble_eq_true rfl)⟩ (Nat.le_of_ble_eq_true rfl) dX5_lean_77 ⟨Nat.le_of_ble_eq_true rfl, Nat.le_of_ble_eq_true rfl⟩ rfl ?_
          refine tm_lv X [] rfl ?_
          exact hk80 r7
        · skip
          refine tm_iload_n X 2 dX5_lean_69 rfl rfl ?_
          refine tm_iconst X (3 : Int32) dX5_lean_70 (by decide) ?_
          refine tm_iadd X dX5_lean_71 ?_
          refine tm_goto X 80 dX5_lean_72 rfl ?_
          refine tm_lv X [] rfl ?_
          exact hk80 (x2_3 + (3 : Int32))
    · skip
      refine tm_iload_n X 3 dX5_lean_21 rfl rfl ?_
      refine tm_iconst X (2 : Int32) dX5_lean_22 (by decide) ?_
      refine tm_irem X dX5_lean_23 (by decide) ?_
      refine tm_iconst X (1 : Int32) dX5_lean_24 (by decide) ?_
      refine tm_let (fun k => ∀ (s8 : Int32), TM G r (k s8) (wM ad dA h) 0 0 40 [(0, .ref (ad 300)), (1, .int x1), (2, .int x2_3), (3, .int x3_4)] [.int s8]) ?_ (fun k40 hk40 => ?_)
      · intro s8
        refine tm_istore X [(4, .int s8), (0, .ref (ad 300)), (1, .int x1), (2, .int x2_3), (3, .int x3_4)] dX5_lean_40 (Nat.le_of_ble_eq_true rfl) rfl ?_
        refine tm_aload_n X 1 dX5_lean_42 rfl rfl ?_
        refine tm_iload X 0 dX5_lean_43 rfl ?_
        refine tm_cl1 (fun r10 e9 => ?_)
        refine tm_callVi (As := [.int s8]) (rest := []) (q0 := 0) X (ctX5_touchLeaning l D ad dA h s8 r10 e9) (lw_V q1701 q1703 qs96 q122 q1704) cyX5_touchLeaning rfl rfl rfl ⟨(Nat.le_of_ble_eq_true rfl), (Nat.le_of_ble_eq_true rfl)⟩ (Nat.le_of_ble_eq_true rfl) dX5_lean_45 ⟨Nat.le_of_ble_eq_true rfl, Nat.le_of_ble_eq_true rfl⟩ rfl ?_
        refine tm_aload_n X 1 dX5_lean_48 rfl rfl ?_
        refine tm_iload_n X 3 dX5_lean_49 rfl rfl ?_
        refine tm_cl1 (fun r12 e11 => ?_)
        refine tm_callVi (As := [.int x2_3]) (rest := [.int r10]) (q0 := 0) X (ctX5_touchLeaning l D ad dA h x2_3 r12 e11) (lw_V q1701 q1703 qs96 q122 q1704) cyX5_touchLeaning rfl rfl rfl ⟨(Nat.le_of_ble_eq_true rfl), (Nat.le_of_ble_eq_true rfl)⟩ (Nat.le_of_ble_eq_true rfl) dX5_lean_50 ⟨Nat.le_of_ble_eq_true rfl, Nat.le_of_ble_eq_true rfl⟩ rfl ?_
        refine tm_let (fun k => ∀ (x2_13 : Int32), TM G r (k x2_13) (wM ad dA h) 0 0 59 [(0, .ref (ad 300)), (1, .int x1), (2, .int x2_13), (3, .int x3_4)] []) ?_ (fun k59 hk59 => ?_)
        · intro x2_13
          refine tm_iinc (v := (1 : Int32)) X 3 [(3, .int (x3_4 + (1 : Int32))), (0, .ref (ad 300)), (1, .int x1), (2, .int x2_13)] dX5_lean_59 rfl (by decide) (Nat.le_of_ble_eq_true rfl) rfl ?_
          refine tm_goto X 15 dX5_lean_62 rfl ?_
          refine tm_lv X [1, 2, 3, 0] rfl ?_
          exact hk15 x2_13 (x3_4 + (1 : Int32))
        · skip
          refine tm_ic_le X 59 dX5_lean_53 rfl ?_ ?_
          · skip
            refine tm_lv X [1, 2, 3, 4] rfl ?_
            exact hk59 x2_3
          · skip
            refine tm_iload X 0 dX5_lean_56 rfl ?_
            refine tm_istore_n X [(2, .int s8), (4, .int s8), (0, .ref (ad 300)), (1, .int x1), (3, .int x3_4)] dX5_lean_58 rfl (Nat.le_of_ble_eq_true rfl) rfl ?_
            refine tm_lv X [2, 3, 0, 4] rfl ?_
            exact hk59 s8
      · skip
        refine tm_ic_ne X 37 dX5_lean_25 rfl ?_ ?_
        · skip
          refine tm_iload_n X 3 dX5_lean_37 rfl rfl ?_
          refine tm_iconst X (2 : Int32) dX5_lean_38 (by decide) ?_
          refine tm_idiv X dX5_lean_39 (by decide) ?_
          exact hk40 (x3_4 / (2 : Int32))
        · skip
          refine tm_iload_n X 3 dX5_lean_28 rfl rfl ?_
          refine tm_iconst X (1 : Int32) dX5_lean_29 (by decide) ?_
          refine tm_iadd X dX5_lean_30 ?_
          refine tm_ineg X dX5_lean_31 ?_
          refine tm_iconst X (2 : Int32) dX5_lean_32 (by decide) ?_
          refine tm_idiv X dX5_lean_33 (by decide) ?_
          refine tm_goto X 40 dX5_lean_34 rfl ?_
          exact hk40 ((-(x3_4 + (1 : Int32))) / (2 : Int32))
  · skip
    refine tm_iconst X (-1 : Int32) dX5_lean_9 (by decide) ?_
    exact tm_retI hRet dX5_lean_10
def mX5_splint (h : Hp) (x1 : Int32) (x2 : Int32) : Option (Int32) :=
cl1 (mX5_in x1 (0 : Int32) (20 : Int32)) (fun r1 =>
nm (
some (-1 : Int32)) (fun k22 =>
if r1 = 0 then (
k22) else (
nm (
cl1 (mX5_opening h (0 : Int32) (0 : Int32)) (fun r4 =>
nm ((r4 + x1)) (fun v5 =>
if x2 = (-1 : Int32) then (
fx FU (fun _ _ => none) (fun k52 (x4_6 : Int32) (x5_7 : Int32) =>
if (48 : Int32) ≤ x5_7 then (
some x4_6) else (
cl1 (mX5_restAt h x5_7) (fun r9 =>
nm (((x4_6 + v5) - r9)) (fun v10 =>
k52 v10 (x5_7 + (1 : Int32)))))) (0 : Int32) (0 : Int32)) else (
cl1 (mX5_restAt h x2) (fun r12 =>
some (v5 - r12)))))) (fun k24 =>
if x2 = (-1 : Int32) then (
k24) else (
cl1 (mX5_isPlace x2) (fun r13 =>
if r13 = 0 then (
k22) else (
k24)))))))
theorem cyX5_splint : Callee yX5_splint 2 := by unfold Callee; decide +kernel
set_option maxHeartbeats 4000000 in
theorem ctX5_splint (l : Launch) (D : va_G) (ad : Nat → Nat) (dA : Nat → ClassId) (h : Hp) (x1 : Int32) (x2 : Int32) (r : Int32) (hm : mX5_splint h x1 x2 = some r) : CT l yX5_splint cX5_splint 6 (some .int) D dA 4 94 0 0 (wM ad dA h) [.ref (ad 300), .int x1, .int x2] (some (.int r)) (wM ad dA h) := by
  refine ct_open (by decide) (Nat.le_of_ble_eq_true rfl) ?_
  intro G X hI hZ hV hR
  have hRet := hI rfl r rfl
  refine (show TM G r (mX5_splint h x1 x2) (wM ad dA h) 0 0 0 [(0, .ref (ad 300)), (1, .int x1), (2, .int x2)] [] from ?_) hm
  clear hm hI hZ hV hR
  unfold mX5_splint
  refine tm_iload_n X 1 dX5_splint_0 rfl rfl ?_
  refine tm_iconst X (0 : Int32) dX5_splint_1 (by decide) ?_
  refine tm_bipush X (20 : Int32) dX5_splint_2 (by decide) ?_
  refine tm_cl1 (fun r1 e2 => ?_)
  refine tm_callSi (As := [.int x1, .int (0 : Int32), .int (20 : Int32)]) (rest := []) X (ctX5_in l D dA x1 (0 : Int32) (20 : Int32) r1 e2) (lw_S q1366 q1367 q122 q1368) cyX5_in rfl ⟨(Nat.le_of_ble_eq_true rfl), (Nat.le_of_ble_eq_true rfl)⟩ (Nat.le_of_ble_eq_true rfl) dX5_splint_4 ⟨Nat.le_of_ble_eq_true rfl, Nat.le_of_ble_eq_true rfl⟩ rfl ?_
  refine tm_let (fun k => TM G r k (wM ad dA h) 0 0 22 [] []) ?_ (fun k22 hk22 => ?_)
  · skip
    refine tm_iconst X (-1 : Int32) dX5_splint_22 (by decide) ?_
    exact tm_retI hRet dX5_splint_23
  · skip
    refine tm_if_eq X 22 dX5_splint_7 rfl ?_ ?_
    · skip
      refine tm_lv X [] rfl ?_
      exact hk22
    · skip
      refine tm_iload_n X 2 dX5_splint_10 rfl rfl ?_
      refine tm_iconst X (-1 : Int32) dX5_splint_11 (by decide) ?_
      refine tm_let (fun k => TM G r k (wM ad dA h) 0 0 24 [(0, .ref (ad 300)), (1, .int x1), (2, .int x2)] []) ?_ (fun k24 hk24 => ?_)
      · skip
        refine tm_aload_n X 0 dX5_splint_24 rfl rfl ?_
        refine tm_iconst X (0 : Int32) dX5_splint_25 (by decide) ?_
        refine tm_iconst X (0 : Int32) dX5_splint_26 (by decide) ?_
        refine tm_cl1 (fun r4 e3 => ?_)
        refine tm_callVi (As := [.int (0 : Int32), .int (0 : Int32)]) (rest := []) (q0 := 0) X (ctX5_opening l D ad dA h (0 : Int32) (0 : Int32) r4 e3) (lw_V q1520 q1522 qs75 q122 q1523) cyX5_opening rfl rfl rfl ⟨(Nat.le_of_ble_eq_true rfl), (Nat.le_of_ble_eq_true rfl)⟩ (Nat.le_of_ble_eq_true rfl) dX5_splint_27 ⟨Nat.le_of_ble_eq_true rfl, Nat.le_of_ble_eq_true rfl⟩ rfl ?_
        refine tm_iload_n X 1 dX5_splint_30 rfl rfl ?_
        refine tm_iadd X dX5_splint_31 ?_
        refine tm_nmI (fun v5 => ?_)
        refine tm_istore_n X [(3, .int v5), (0, .ref (ad 300)), (1, .int x1), (2, .int x2)] dX5_splint_32 rfl (Nat.le_of_ble_eq_true rfl) rfl ?_
        refine tm_iload_n X 3 dX5_splint_33 rfl rfl ?_
        refine tm_iconst X (-1 : Int32) dX5_splint_34 (by decide) ?_
        refine tm_ic_eq X 46 dX5_splint_35 rfl ?_ ?_
        · skip
          refine tm_iconst X (0 : Int32) dX5_splint_46 (by decide) ?_
          refine tm_istore X [(4, .int (0 : Int32)), (3, .int v5), (0, .ref (ad 300)), (1, .int x1), (2, .int x2)] dX5_splint_47 (Nat.le_of_ble_eq_true rfl) rfl ?_
          refine tm_iconst X (0 : Int32) dX5_splint_49 (by decide) ?_
          refine tm_istore X [(5, .int (0 : Int32)), (4, .int (0 : Int32)), (3, .int v5), (0, .ref (ad 300)), (1, .int x1), (2, .int x2)] dX5_splint_50 (Nat.le_of_ble_eq_true rfl) rfl ?_
          refine tm_lv X [3, 2, 1, 0] rfl ?_
          refine fx_P (fun (k : Int32 → Int32 → Option (Int32)) => ∀ (x4_6 : Int32) (x5_7 : Int32), TM G r (k x4_6 x5_7) (wM ad dA h) 0 0 52 [(0, .ref (ad 300)), (3, .int v5), (4, .int x4_6), (5, .int x5_7)] []) (fun _ _ => tm_none) (fun k52 hk52 x4_6 x5_7 => ?_) FU (0 : Int32) (0 : Int32)
          refine tm_iload X 3 dX5_splint_52 rfl ?_
          refine tm_bipush X (48 : Int32) dX5_splint_54 (by decide) ?_
          refine tm_ic_ge X 78 dX5_splint_56 rfl ?_ ?_
          · skip
            refine tm_iload X 2 dX5_splint_78 rfl ?_
            exact tm_retI hRet dX5_splint_80
          · skip
            refine tm_iload X 2 dX5_splint_59 rfl ?_
            refine tm_iload_n X 1 dX5_splint_61 rfl rfl ?_
            refine tm_iadd X dX5_splint_62 ?_
            refine tm_aload_n X 0 dX5_splint_63 rfl rfl ?_
            refine tm_iload X 3 dX5_splint_64 rfl ?_
            refine tm_cl1 (fun r9 e8 => ?_)
            refine tm_callVi (As := [.int x5_7]) (rest := [.int (x4_6 + v5)]) (q0 := 0) X (ctX5_restAt l D ad dA h x5_7 r9 e8) (lw_V q1611 q1613 qs88 q122 q1614) cyX5_restAt rfl rfl rfl ⟨(Nat.le_of_ble_eq_true rfl), (Nat.le_of_ble_eq_true rfl)⟩ (Nat.le_of_ble_eq_true rfl) dX5_splint_66 ⟨Nat.le_of_ble_eq_true rfl, Nat.le_of_ble_eq_true rfl⟩ rfl ?_
            refine tm_isub X dX5_splint_69 ?_
            refine tm_nmI (fun v10 => ?_)
            refine tm_istore X [(4, .int v10), (0, .ref (ad 300)), (3, .int v5), (5, .int x5_7)] dX5_splint_70 (Nat.le_of_ble_eq_true rfl) rfl ?_
            refine tm_iinc (v := (1 : Int32)) X 3 [(5, .int (x5_7 + (1 : Int32))), (4, .int v10), (0, .ref (ad 300)), (3, .int v5)] dX5_splint_72 rfl (by decide) (Nat.le_of_ble_eq_true rfl) rfl ?_
            refine tm_goto X 52 dX5_splint_75 rfl ?_
            refine tm_lv X [2, 3, 1, 0] rfl ?_
            exact hk52 v10 (x5_7 + (1 : Int32))
        · skip
          refine tm_iload_n X 0 dX5_splint_38 rfl rfl ?_
          refine tm_aload_n X 1 dX5_splint_39 rfl rfl ?_
          refine tm_iload_n X 3 dX5_splint_40 rfl rfl ?_
          refine tm_cl1 (fun r12 e11 => ?_)
          refine tm_callVi (As := [.int x2]) (rest := [.int v5]) (q0 := 0) X (ctX5_restAt l D ad dA h x2 r12 e11) (lw_V q1611 q1613 qs88 q122 q1614) cyX5_restAt rfl rfl rfl ⟨(Nat.le_of_ble_eq_true rfl), (Nat.le_of_ble_eq_true rfl)⟩ (Nat.le_of_ble_eq_true rfl) dX5_splint_41 ⟨Nat.le_of_ble_eq_true rfl, Nat.le_of_ble_eq_true rfl⟩ rfl ?_
          refine tm_isub X dX5_splint_44 ?_
          exact tm_retI hRet dX5_splint_45
      · skip
        refine tm_ic_eq X 24 dX5_splint_12 rfl ?_ ?_
        · skip
          exact hk24
        · skip
          refine tm_iload_n X 2 dX5_splint_15 rfl rfl ?_
          refine tm_cl1 (fun r13 e14 => ?_)
          refine tm_callSi (As := [.int x2]) (rest := []) X (ctX5_isPlace l D dA x2 r13 e14) (lw_S q1369 q1370 q122 q1371) cyX5_isPlace rfl ⟨(Nat.le_of_ble_eq_true rfl), (Nat.le_of_ble_eq_true rfl)⟩ (Nat.le_of_ble_eq_true rfl) dX5_splint_16 ⟨Nat.le_of_ble_eq_true rfl, Nat.le_of_ble_eq_true rfl⟩ rfl ?_
          refine tm_if_ne X 24 dX5_splint_19 rfl ?_ ?_
          · skip
            exact hk24
          · skip
            refine tm_lv X [] rfl ?_
            exact hk22
