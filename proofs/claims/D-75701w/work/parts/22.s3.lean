set_option maxRecDepth 100000
def mX0_casts (h : Hp) (x1 : Int32) : Option (Int32 × Hp) :=
cl1 (mX0_within x1 (1 : Int32) (240 : Int32)) (fun r1 =>
nm (
some ((-1 : Int32), h)) (fun k19 =>
if r1 = 0 then (
k19) else (
if x1 ≤ (h 100 10) then (
nm (u2 h 100 10 (0 : Int32)) (fun h3 =>
nm (hC0 h3 x1) (fun h5 =>
cl2 (mX16_read h5) (fun r7 h8 =>
if 0 ≤ r7 then (
fx FU (fun _ _ => none) (fun k50 (x4_9 : Int32) (h10 : Hp) =>
if (2 : Int32) ≤ x4_9 then (
some (r7, h10)) else (
fx FU (fun _ _ => none) (fun k59 (x5_11 : Int32) (h12 : Hp) =>
if (48 : Int32) ≤ x5_11 then (
ck x4_9 2 (nm (u2 h12 44 x4_9.toNatClampNeg (0 : Int32)) (fun h13 =>
k50 (x4_9 + (1 : Int32)) h13))) else (
ck x4_9 2 (
ck x4_9 2 (
ck x5_11 48 (
ck x5_11 48 (nm (u2 h12 (42 + x4_9.toNatClampNeg) x5_11.toNatClampNeg (h12 (82 + x4_9.toNatClampNeg) x5_11.toNatClampNeg)) (fun h16 =>
k59 (x5_11 + (1 : Int32)) h16))))))) (0 : Int32) h10)) (0 : Int32) h8) else (
some (r7, h8)))))) else (
k19))))
theorem cyX0_casts : Callee yX0_casts 1 := by unfold Callee; decide +kernel
set_option maxHeartbeats 4000000 in
theorem ctX0_casts (l : Launch) (D : va_G) (ad : Nat → Nat) (dA : Nat → ClassId) (tt : (Nat → Option Nat) × (Nat → Option Nat) × va_W) (h : Hp) (x1 : Int32) (r : Int32) (h' : Hp) (hm : mX0_casts h x1 = some (r, h')) : CT l yX0_casts cX0_casts 6 (some .int) D dA 6 133 4 107 (wX ad dA tt h) [.ref (ad 100), .int x1] (some (.int r)) (wX ad dA tt h') := by
  refine ct_open (by decide) (Nat.le_of_ble_eq_true rfl) ?_
  intro G X hI hZ hV hR
  have hRet := hI rfl r rfl
  refine (show TM G (r, h') (mX0_casts h x1) (wX ad dA tt h) 0 0 0 [(0, .ref (ad 100)), (1, .int x1)] [] from ?_) hm
  clear hm hI hZ hV hR
  unfold mX0_casts
  refine tm_iload_n X 1 dX0_casts_0 rfl rfl ?_
  refine tm_iconst X (1 : Int32) dX0_casts_1 (by decide) ?_
  refine tm_sipush X (240 : Int32) dX0_casts_2 (by decide) ?_
  refine tm_cl1 (fun r1 e2 => ?_)
  refine tm_callSi (As := [.int x1, .int (1 : Int32), .int (240 : Int32)]) (rest := []) X (ctX0_within l D dA x1 (1 : Int32) (240 : Int32) r1 e2) (lw_S q317 q318 q117 q319) cyX0_within rfl ⟨(Nat.le_of_ble_eq_true rfl), (Nat.le_of_ble_eq_true rfl)⟩ (Nat.le_of_ble_eq_true rfl) dX0_casts_5 ⟨Nat.le_of_ble_eq_true rfl, Nat.le_of_ble_eq_true rfl⟩ rfl ?_
  refine tm_let (fun k => TM G (r, h') k (wX ad dA tt h) 0 0 19 [] []) ?_ (fun k19 hk19 => ?_)
  · skip
    refine tm_iconst X (-1 : Int32) dX0_casts_19 (by decide) ?_
    refine tm_widen (ce' := 4) (sl' := 107) X (Nat.le_of_ble_eq_true rfl) (Nat.le_of_ble_eq_true rfl) ?_
    exact tm_retIH (wf := wX ad dA tt) hRet dX0_casts_20
  · skip
    refine tm_if_eq X 19 dX0_casts_8 rfl ?_ ?_
    · skip
      refine tm_lv X [] rfl ?_
      exact hk19
    · skip
      refine tm_iload_n X 1 dX0_casts_11 rfl rfl ?_
      refine tm_aload_n X 0 dX0_casts_12 rfl rfl ?_
      refine tm_getI X (fiX_100_10 ad dA tt) in_X0 rfl (Nat.le_of_ble_eq_true rfl) q250 rfl dX0_casts_13 ?_
      refine tm_ic_le X 21 dX0_casts_16 rfl ?_ ?_
      · skip
        refine tm_aload_n X 0 dX0_casts_21 rfl rfl ?_
        refine tm_iconst X (0 : Int32) dX0_casts_22 (by decide) ?_
        refine tm_putI X (fiX_100_10 ad dA tt) in_X0 rfl (Nat.le_of_ble_eq_true rfl) tyX0 tyX0_ok nmX0 rfl rfl q250 rfl dX0_casts_23 (fun h3 => ?_)
        refine tm_new (ci := 12) X tyX16 in_X16 tyX16_ok q605 q606 q139 rfl [.int 0, .int 0, .int 0, .int 0, .null, .null, .int 0, .int 0, .null] df_X16 ⟨by omega, by omega⟩ dX0_casts_26 (fun q4 => ?_)
        refine tm_dup X dX0_casts_29 rfl ?_
        refine tm_aload_n X 0 dX0_casts_30 rfl rfl ?_
        refine tm_iload_n X 1 dX0_casts_31 rfl rfl ?_
        refine tm_callIE (ce := 1) (sl := 9) (As := [.ref (ad 100), .int x1]) (rest := [.ref q4]) (wr := (wX ad dA tt h3)) X (ceX16_init l D dA q4 ad h3 x1) q607 q608 q139 q609 rfl cyX16_init rfl ⟨(Nat.le_of_ble_eq_true rfl), (Nat.le_of_ble_eq_true rfl)⟩ (Nat.le_of_ble_eq_true rfl) dX0_casts_32 ⟨by omega, by omega⟩ rfl rfl ?_
        rintro _ _ ⟨rfl, ac, hac, rfl⟩
        subst hac
        refine tm_nmH (wf := wXC ad ac dA tt) (fun h5 => ?_)
        refine tm_same (w' := (wXC ad ac dA tt h5)) (pc' := 35) (st' := [.ref (ac 80)]) rfl rfl rfl rfl rfl ?_
        refine tm_astore_n X [(2, .ref (ac 80)), (0, .ref (ad 100)), (1, .int x1)] dX0_casts_35 rfl (Nat.le_of_ble_eq_true rfl) rfl ?_
        refine tm_aload_n X 0 dX0_casts_36 rfl rfl ?_
        refine tm_cl2 (fun r7 h8 e6 => ?_)
        refine tm_callVi (As := []) (rest := []) (q0 := (35 + tt.2.2.length + 0)) X (ctX16_read l D ad ac dA tt h5 r7 h8 e6) (lw_V q644 q645 q646 q139 q647) cyX16_read rfl (Classical.choose_spec (obXC_80 ad ac dA tt h5)) rfl ⟨(Nat.le_of_ble_eq_true rfl), (Nat.le_of_ble_eq_true rfl)⟩ (Nat.le_of_ble_eq_true rfl) dX0_casts_37 ⟨Nat.le_of_ble_eq_true rfl, Nat.le_of_ble_eq_true rfl⟩ rfl ?_
        refine tm_istore_n X [(3, .int r7), (2, .ref (ac 80)), (0, .ref (ad 100)), (1, .int x1)] dX0_casts_40 rfl (Nat.le_of_ble_eq_true rfl) rfl ?_
        refine tm_iload_n X 0 dX0_casts_41 rfl rfl ?_
        refine tm_if_ge X 47 dX0_casts_42 rfl ?_ ?_
        · skip
          refine tm_iconst X (0 : Int32) dX0_casts_47 (by decide) ?_
          refine tm_istore X [(4, .int (0 : Int32)), (3, .int r7), (2, .ref (ac 80)), (0, .ref (ad 100)), (1, .int x1)] dX0_casts_48 (Nat.le_of_ble_eq_true rfl) rfl ?_
          refine tm_lv X [3, 2, 1, 0] rfl ?_
          refine fx_P (fun (k : Int32 → Hp → Option (Int32 × Hp)) => ∀ (x4_9 : Int32) (h10 : Hp), TM G (r, h') (k x4_9 h10) (wXC ad ac dA tt h10) 4 107 50 [(0, .ref (ad 100)), (2, .ref (ac 80)), (3, .int r7), (4, .int x4_9)] []) (fun _ _ => tm_none) (fun k50 hk50 x4_9 h10 => ?_) FU (0 : Int32) h8
          refine tm_iload X 3 dX0_casts_50 rfl ?_
          refine tm_iconst X (2 : Int32) dX0_casts_52 (by decide) ?_
          refine tm_ic_ge X 112 dX0_casts_53 rfl ?_ ?_
          · skip
            refine tm_iload_n X 2 dX0_casts_112 rfl rfl ?_
            refine tm_dropR (w := wX ad dA tt h10) (v := wC0 ad ac dA h10) X ?_
            exact tm_retIH (wf := wX ad dA tt) hRet dX0_casts_113
          · skip
            refine tm_iconst X (0 : Int32) dX0_casts_56 (by decide) ?_
            refine tm_istore X [(5, .int (0 : Int32)), (0, .ref (ad 100)), (2, .ref (ac 80)), (3, .int r7), (4, .int x4_9)] dX0_casts_57 (Nat.le_of_ble_eq_true rfl) rfl ?_
            refine tm_lv X [1, 2, 3, 4, 0] rfl ?_
            refine fx_P (fun (k : Int32 → Hp → Option (Int32 × Hp)) => ∀ (x5_11 : Int32) (h12 : Hp), TM G (r, h') (k x5_11 h12) (wXC ad ac dA tt h12) 4 107 59 [(0, .ref (ad 100)), (2, .ref (ac 80)), (3, .int r7), (4, .int x4_9), (5, .int x5_11)] []) (fun _ _ => tm_none) (fun k59 hk59 x5_11 h12 => ?_) FU (0 : Int32) h10
            refine tm_iload X 4 dX0_casts_59 rfl ?_
            refine tm_bipush X (48 : Int32) dX0_casts_61 (by decide) ?_
            refine tm_ic_ge X 95 dX0_casts_63 rfl ?_ ?_
            · skip
              refine tm_aload_n X 0 dX0_casts_95 rfl rfl ?_
              refine tm_getR X (frXC_100_5 ad ac dA tt h12) in_X0 rfl (Nat.le_of_ble_eq_true rfl) q242 rfl dX0_casts_96 ?_
              refine tm_getRN X (frXC_40_1 ad ac dA tt h12) in_X3 rfl (Nat.le_of_ble_eq_true rfl) q181 rfl dX0_casts_99 ?_
              refine tm_iload X 3 dX0_casts_102 rfl ?_
              refine tm_iconst X (0 : Int32) dX0_casts_104 (by decide) ?_
              refine tm_iastore X (arXC_44 ad ac dA tt) dX0_casts_105 (fun h13 => ?_)
              refine tm_iinc (v := (1 : Int32)) X 3 [(4, .int (x4_9 + (1 : Int32))), (0, .ref (ad 100)), (2, .ref (ac 80)), (3, .int r7), (5, .int x5_11)] dX0_casts_106 rfl (by decide) (Nat.le_of_ble_eq_true rfl) rfl ?_
              refine tm_goto X 50 dX0_casts_109 rfl ?_
              refine tm_lv X [1, 2, 3, 0] rfl ?_
              exact hk50 (x4_9 + (1 : Int32)) h13
            · skip
              refine tm_aload_n X 0 dX0_casts_66 rfl rfl ?_
              refine tm_getR X (frXC_100_5 ad ac dA tt h12) in_X0 rfl (Nat.le_of_ble_eq_true rfl) q242 rfl dX0_casts_67 ?_
              refine tm_getRN X (frXC_40_0 ad ac dA tt h12) in_X3 rfl (Nat.le_of_ble_eq_true rfl) q179 rfl dX0_casts_70 ?_
              refine tm_iload X 3 dX0_casts_73 rfl ?_
              refine tm_aaloadX X (aaXC_41 ad ac dA tt h12) dX0_casts_75 (fun hb14 => ?_)
              refine tm_iload X 4 dX0_casts_76 rfl ?_
              refine tm_aload_n X 1 dX0_casts_78 rfl rfl ?_
              refine tm_getRN X (frXC_80_5 ad ac dA tt h12) in_X16 rfl (Nat.le_of_ble_eq_true rfl) q616 rfl dX0_casts_79 ?_
              refine tm_iload X 3 dX0_casts_82 rfl ?_
              refine tm_aaloadX X (aaXC_81 ad ac dA tt h12) dX0_casts_84 (fun hb15 => ?_)
              refine tm_iload X 4 dX0_casts_85 rfl ?_
              refine tm_iaload X (ar2XC_82 ad ac dA tt _ hb15) dX0_casts_87 ?_
              refine tm_iastore X (ar2XC_42 ad ac dA tt _ hb14) dX0_casts_88 (fun h16 => ?_)
              refine tm_iinc (v := (1 : Int32)) X 4 [(5, .int (x5_11 + (1 : Int32))), (0, .ref (ad 100)), (2, .ref (ac 80)), (3, .int r7), (4, .int x4_9)] dX0_casts_89 rfl (by decide) (Nat.le_of_ble_eq_true rfl) rfl ?_
              refine tm_goto X 59 dX0_casts_92 rfl ?_
              refine tm_lv X [1, 2, 3, 4, 0] rfl ?_
              exact hk59 (x5_11 + (1 : Int32)) h16
        · skip
          refine tm_iload_n X 0 dX0_casts_45 rfl rfl ?_
          refine tm_dropR (w := wX ad dA tt h8) (v := wC0 ad ac dA h8) X ?_
          exact tm_retIH (wf := wX ad dA tt) hRet dX0_casts_46
      · skip
        refine tm_lv X [] rfl ?_
        exact hk19
def mX0_tour (h : Hp) (x1 : Int32) : Option (Int32 × Hp) :=
cl1 (mX0_within x1 (1 : Int32) (80 : Int32)) (fun r1 =>
nm (
some ((-1 : Int32), h)) (fun k18 =>
if r1 = 0 then (
k18) else (
if x1 ≤ (h 100 10) then (
nm (u2 h 100 10 (0 : Int32)) (fun h3 =>
nm (hG0 h3 x1) (fun h5 =>
cl2 (mX17_read h5) (fun r7 h8 =>
if 0 ≤ r7 then (
nm (u2 h8 100 4 r7) (fun h9 =>
fx FU (fun _ _ _ => none) (fun k58 (x4_10 : Int32) (x5_11 : Int32) (h12 : Hp) =>
if r7 ≤ x5_11 then (
some (r7, h12)) else (
ck x5_11 48 (
nm (fun (s13 : Int32) =>
nm (fun (s14 : Int32) =>
ck x5_11 48 (nm (u2 h12 3 x5_11.toNatClampNeg s14) (fun h15 =>
k58 s14 (x5_11 + (1 : Int32)) h15))) (fun k107 =>
if s13 = (-1 : Int32) then (
k107 x4_10) else (
k107 s13))) (fun k92 =>
if (h12 86 x5_11.toNatClampNeg) = (4 : Int32) then (
k92 (31 : Int32)) else (
ck x5_11 48 (
cl1 (mX0_stepped x4_10 (h12 86 x5_11.toNatClampNeg)) (fun r16 =>
k92 r16))))))) (31 : Int32) (0 : Int32) h9)) else (
some (r7, h8)))))) else (
k18))))
theorem cyX0_tour : Callee yX0_tour 1 := by unfold Callee; decide +kernel
set_option maxHeartbeats 4000000 in
theorem ctX0_tour (l : Launch) (D : va_G) (ad : Nat → Nat) (dA : Nat → ClassId) (tt : (Nat → Option Nat) × (Nat → Option Nat) × va_W) (h : Hp) (x1 : Int32) (r : Int32) (h' : Hp) (hm : mX0_tour h x1 = some (r, h')) : CT l yX0_tour cX0_tour 7 (some .int) D dA 32 736 2 57 (wX ad dA tt h) [.ref (ad 100), .int x1] (some (.int r)) (wX ad dA tt h') := by
  refine ct_open (by decide) (Nat.le_of_ble_eq_true rfl) ?_
  intro G X hI hZ hV hR
  have hRet := hI rfl r rfl
  refine (show TM G (r, h') (mX0_tour h x1) (wX ad dA tt h) 0 0 0 [(0, .ref (ad 100)), (1, .int x1)] [] from ?_) hm
  clear hm hI hZ hV hR
  unfold mX0_tour
  refine tm_iload_n X 1 dX0_tour_0 rfl rfl ?_
  refine tm_iconst X (1 : Int32) dX0_tour_1 (by decide) ?_
  refine tm_bipush X (80 : Int32) dX0_tour_2 (by decide) ?_
  refine tm_cl1 (fun r1 e2 => ?_)
  refine tm_callSi (As := [.int x1, .int (1 : Int32), .int (80 : Int32)]) (rest := []) X (ctX0_within l D dA x1 (1 : Int32) (80 : Int32) r1 e2) (lw_S q317 q318 q117 q319) cyX0_within rfl ⟨(Nat.le_of_ble_eq_true rfl), (Nat.le_of_ble_eq_true rfl)⟩ (Nat.le_of_ble_eq_true rfl) dX0_tour_4 ⟨Nat.le_of_ble_eq_true rfl, Nat.le_of_ble_eq_true rfl⟩ rfl ?_
  refine tm_let (fun k => TM G (r, h') k (wX ad dA tt h) 0 0 18 [] []) ?_ (fun k18 hk18 => ?_)
  · skip
    refine tm_iconst X (-1 : Int32) dX0_tour_18 (by decide) ?_
    refine tm_widen (ce' := 2) (sl' := 57) X (Nat.le_of_ble_eq_true rfl) (Nat.le_of_ble_eq_true rfl) ?_
    exact tm_retIH (wf := wX ad dA tt) hRet dX0_tour_19
  · skip
    refine tm_if_eq X 18 dX0_tour_7 rfl ?_ ?_
    · skip
      refine tm_lv X [] rfl ?_
      exact hk18
    · skip
      refine tm_iload_n X 1 dX0_tour_10 rfl rfl ?_
      refine tm_aload_n X 0 dX0_tour_11 rfl rfl ?_
      refine tm_getI X (fiX_100_10 ad dA tt) in_X0 rfl (Nat.le_of_ble_eq_true rfl) q250 rfl dX0_tour_12 ?_
      refine tm_ic_le X 20 dX0_tour_15 rfl ?_ ?_
      · skip
        refine tm_aload_n X 0 dX0_tour_20 rfl rfl ?_
        refine tm_iconst X (0 : Int32) dX0_tour_21 (by decide) ?_
        refine tm_putI X (fiX_100_10 ad dA tt) in_X0 rfl (Nat.le_of_ble_eq_true rfl) tyX0 tyX0_ok nmX0 rfl rfl q250 rfl dX0_tour_22 (fun h3 => ?_)
        refine tm_new (ci := 13) X tyX17 in_X17 tyX17_ok q728 q729 q140 rfl [.int 0, .int 0, .int 0, .int 0, .null, .null, .int 0, .int 0, .null] df_X17 ⟨by omega, by omega⟩ dX0_tour_25 (fun q4 => ?_)
        refine tm_dup X dX0_tour_28 rfl ?_
        refine tm_aload_n X 0 dX0_tour_29 rfl rfl ?_
        refine tm_iload_n X 1 dX0_tour_30 rfl rfl ?_
        refine tm_callIE (ce := 1) (sl := 9) (As := [.ref (ad 100), .int x1]) (rest := [.ref q4]) (wr := (wX ad dA tt h3)) X (ceX17_init l D dA q4 ad h3 x1) q730 q731 q140 q732 rfl cyX17_init rfl ⟨(Nat.le_of_ble_eq_true rfl), (Nat.le_of_ble_eq_true rfl)⟩ (Nat.le_of_ble_eq_true rfl) dX0_tour_31 ⟨by omega, by omega⟩ rfl rfl ?_
        rintro _ _ ⟨rfl, ac, hac, rfl⟩
        subst hac
        refine tm_nmH (wf := wXG ad ac dA tt) (fun h5 => ?_)
        refine tm_same (w' := (wXG ad ac dA tt h5)) (pc' := 34) (st' := [.ref (ac 85)]) rfl rfl rfl rfl rfl ?_
        refine tm_astore_n X [(2, .ref (ac 85)), (0, .ref (ad 100)), (1, .int x1)] dX0_tour_34 rfl (Nat.le_of_ble_eq_true rfl) rfl ?_
        refine tm_aload_n X 0 dX0_tour_35 rfl rfl ?_
        refine tm_cl2 (fun r7 h8 e6 => ?_)
        refine tm_callVi (As := []) (rest := []) (q0 := (35 + tt.2.2.length + 0)) X (ctX17_read l D ad ac dA tt h5 r7 h8 e6) (lw_V q753 q754 q755 q140 q756) cyX17_read rfl (Classical.choose_spec (obXG_85 ad ac dA tt h5)) rfl ⟨(Nat.le_of_ble_eq_true rfl), (Nat.le_of_ble_eq_true rfl)⟩ (Nat.le_of_ble_eq_true rfl) dX0_tour_36 ⟨Nat.le_of_ble_eq_true rfl, Nat.le_of_ble_eq_true rfl⟩ rfl ?_
        refine tm_istore_n X [(3, .int r7), (2, .ref (ac 85)), (0, .ref (ad 100)), (1, .int x1)] dX0_tour_39 rfl (Nat.le_of_ble_eq_true rfl) rfl ?_
        refine tm_iload_n X 0 dX0_tour_40 rfl rfl ?_
        refine tm_if_ge X 46 dX0_tour_41 rfl ?_ ?_
        · skip
          refine tm_aload_n X 2 dX0_tour_46 rfl rfl ?_
          refine tm_iload_n X 0 dX0_tour_47 rfl rfl ?_
          refine tm_putI X (fiXG_100_4 ad ac dA tt) in_X0 rfl (Nat.le_of_ble_eq_true rfl) tyX0 tyX0_ok nmX0 rfl rfl q241 rfl dX0_tour_48 (fun h9 => ?_)
          refine tm_bipush X (31 : Int32) dX0_tour_51 (by decide) ?_
          refine tm_istore X [(4, .int (31 : Int32)), (3, .int r7), (2, .ref (ac 85)), (0, .ref (ad 100)), (1, .int x1)] dX0_tour_53 (Nat.le_of_ble_eq_true rfl) rfl ?_
          refine tm_iconst X (0 : Int32) dX0_tour_55 (by decide) ?_
          refine tm_istore X [(5, .int (0 : Int32)), (4, .int (31 : Int32)), (3, .int r7), (2, .ref (ac 85)), (0, .ref (ad 100)), (1, .int x1)] dX0_tour_56 (Nat.le_of_ble_eq_true rfl) rfl ?_
          refine tm_lv X [4, 3, 2, 1, 0] rfl ?_
          refine fx_P (fun (k : Int32 → Int32 → Hp → Option (Int32 × Hp)) => ∀ (x4_10 : Int32) (x5_11 : Int32) (h12 : Hp), TM G (r, h') (k x4_10 x5_11 h12) (wXG ad ac dA tt h12) 2 57 58 [(0, .ref (ad 100)), (2, .ref (ac 85)), (3, .int r7), (4, .int x4_10), (5, .int x5_11)] []) (fun _ _ _ => tm_none) (fun k58 hk58 x4_10 x5_11 h12 => ?_) FU (31 : Int32) (0 : Int32) h9
          refine tm_iload X 4 dX0_tour_58 rfl ?_
          refine tm_iload_n X 2 dX0_tour_60 rfl rfl ?_
          refine tm_ic_ge X 124 dX0_tour_61 rfl ?_ ?_
          · skip
            refine tm_iload_n X 2 dX0_tour_124 rfl rfl ?_
            refine tm_dropR (w := wX ad dA tt h12) (v := wG0 ad ac dA h12) X ?_
            exact tm_retIH (wf := wX ad dA tt) hRet dX0_tour_125
          · skip
            refine tm_aload_n X 1 dX0_tour_64 rfl rfl ?_
            refine tm_getRN X (frXG_85_5 ad ac dA tt h12) in_X17 rfl (Nat.le_of_ble_eq_true rfl) q735 rfl dX0_tour_65 ?_
            refine tm_iload X 4 dX0_tour_68 rfl ?_
            refine tm_iaload X (arXG_86 ad ac dA tt) dX0_tour_70 ?_
            refine tm_iconst X (4 : Int32) dX0_tour_71 (by decide) ?_
            refine tm_let (fun k => ∀ (s13 : Int32), TM G (r, h') (k s13) (wXG ad ac dA tt h12) 2 57 92 [(0, .ref (ad 100)), (2, .ref (ac 85)), (3, .int r7), (4, .int x4_10), (5, .int x5_11)] [.int s13]) ?_ (fun k92 hk92 => ?_)
            · intro s13
              refine tm_istore X [(6, .int s13), (0, .ref (ad 100)), (2, .ref (ac 85)), (3, .int r7), (4, .int x4_10), (5, .int x5_11)] dX0_tour_92 (Nat.le_of_ble_eq_true rfl) rfl ?_
              refine tm_iload X 0 dX0_tour_94 rfl ?_
              refine tm_iconst X (-1 : Int32) dX0_tour_96 (by decide) ?_
              refine tm_let (fun k => ∀ (s14 : Int32), TM G (r, h') (k s14) (wXG ad ac dA tt h12) 2 57 107 [(0, .ref (ad 100)), (2, .ref (ac 85)), (3, .int r7), (5, .int x5_11)] [.int s14]) ?_ (fun k107 hk107 => ?_)
              · intro s14
                refine tm_istore X [(4, .int s14), (0, .ref (ad 100)), (2, .ref (ac 85)), (3, .int r7), (5, .int x5_11)] dX0_tour_107 (Nat.le_of_ble_eq_true rfl) rfl ?_
                refine tm_aload_n X 1 dX0_tour_109 rfl rfl ?_
                refine tm_getR X (frXG_100_3 ad ac dA tt h12) in_X0 rfl (Nat.le_of_ble_eq_true rfl) q239 rfl dX0_tour_110 ?_
                refine tm_iload X 4 dX0_tour_113 rfl ?_
                refine tm_iload X 0 dX0_tour_115 rfl ?_
                refine tm_iastore X (arXG_3 ad ac dA tt) dX0_tour_117 (fun h15 => ?_)
                refine tm_iinc (v := (1 : Int32)) X 4 [(5, .int (x5_11 + (1 : Int32))), (4, .int s14), (0, .ref (ad 100)), (2, .ref (ac 85)), (3, .int r7)] dX0_tour_118 rfl (by decide) (Nat.le_of_ble_eq_true rfl) rfl ?_
                refine tm_goto X 58 dX0_tour_121 rfl ?_
                refine tm_lv X [2, 3, 4, 1, 0] rfl ?_
                exact hk58 s14 (x5_11 + (1 : Int32)) h15
              · skip
                refine tm_ic_ne X 105 dX0_tour_97 rfl ?_ ?_
                · skip
                  refine tm_iload X 0 dX0_tour_105 rfl ?_
                  refine tm_lv X [1, 2, 3, 5] rfl ?_
                  exact hk107 s13
                · skip
                  refine tm_iload X 4 dX0_tour_100 rfl ?_
                  refine tm_goto X 107 dX0_tour_102 rfl ?_
                  refine tm_lv X [1, 2, 3, 5] rfl ?_
                  exact hk107 x4_10
            · skip
              refine tm_ic_ne X 80 dX0_tour_72 rfl ?_ ?_
              · skip
                refine tm_iload X 3 dX0_tour_80 rfl ?_
                refine tm_aload_n X 1 dX0_tour_82 rfl rfl ?_
                refine tm_getRN X (frXG_85_5 ad ac dA tt h12) in_X17 rfl (Nat.le_of_ble_eq_true rfl) q735 rfl dX0_tour_83 ?_
                refine tm_iload X 4 dX0_tour_86 rfl ?_
                refine tm_iaload X (arXG_86 ad ac dA tt) dX0_tour_88 ?_
                refine tm_cl1 (fun r16 e17 => ?_)
                refine tm_callSi (As := [.int x4_10, .int (h12 86 x5_11.toNatClampNeg)]) (rest := []) X (ctX0_stepped l D dA x4_10 (h12 86 x5_11.toNatClampNeg) r16 e17) (lw_S q795 q796 q117 q797) cyX0_stepped rfl ⟨(Nat.le_of_ble_eq_true rfl), (Nat.le_of_ble_eq_true rfl)⟩ (Nat.le_of_ble_eq_true rfl) dX0_tour_89 ⟨Nat.le_of_ble_eq_true rfl, Nat.le_of_ble_eq_true rfl⟩ rfl ?_
                exact hk92 r16
              · skip
                refine tm_bipush X (31 : Int32) dX0_tour_75 (by decide) ?_
                refine tm_goto X 92 dX0_tour_77 rfl ?_
                exact hk92 (31 : Int32)
        · skip
          refine tm_iload_n X 0 dX0_tour_44 rfl rfl ?_
          refine tm_dropR (w := wX ad dA tt h8) (v := wG0 ad ac dA h8) X ?_
          exact tm_retIH (wf := wX ad dA tt) hRet dX0_tour_45
      · skip
        refine tm_lv X [] rfl ?_
        exact hk18
