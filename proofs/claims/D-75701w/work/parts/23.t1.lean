set_option maxRecDepth 100000
def mX8_worked (h : Hp) (x0 : Int32) (x1 : Int32) (x2 : Int32) : Option (Int32 × Hp) :=
if x0 = (42 : Int32) then (
some ((x1 * x2), h)) else (
if x0 = (43 : Int32) then (
some ((x1 + x2), h)) else (
if x0 = (44 : Int32) then (
nm (fun (h3 : Hp) =>
nm (fun (s4 : Int32) =>
some (s4, h3)) (fun k76 =>
if x2 = 0 then (
k76 (0 : Int32)) else (
if x0 = (47 : Int32) then (
nz x2 (
k76 (x1 / x2))) else (
nz x2 (
k76 (jrem x1 x2)))))) (fun k53 =>
if x2 = 0 then (
nm (u2 h 30 1 (1 : Int32)) (fun h5 =>
k53 h5)) else (
k53 h))) else (
if x0 = (45 : Int32) then (
some ((x1 - x2), h)) else (
nm (fun (h8 : Hp) =>
nm (fun (s9 : Int32) =>
some (s9, h8)) (fun k76 =>
if x2 = 0 then (
k76 (0 : Int32)) else (
if x0 = (47 : Int32) then (
nz x2 (
k76 (x1 / x2))) else (
nz x2 (
k76 (jrem x1 x2)))))) (fun k53 =>
if x2 = 0 then (
nm (u2 h 30 1 (1 : Int32)) (fun h10 =>
k53 h10)) else (
k53 h))))))
theorem cyX8_worked : Callee yX8_worked 4 := by unfold Callee; decide +kernel
set_option maxHeartbeats 4000000 in
theorem ctX8_worked (l : Launch) (D : va_G) (ad : Nat → Nat) (dA : Nat → ClassId) (tt : (Nat → Option Nat) × (Nat → Option Nat) × va_W) (h : Hp) (x0 : Int32) (x1 : Int32) (x2 : Int32) (r : Int32) (h' : Hp) (hm : mX8_worked h x0 x1 x2 = some (r, h')) : CT l yX8_worked cX8_worked 4 (some .int) D dA 0 0 0 0 (wX ad dA tt h) [.int x0, .int x1, .int x2, .ref (ad 30)] (some (.int r)) (wX ad dA tt h') := by
  refine ct_open (by decide) (Nat.le_of_ble_eq_true rfl) ?_
  intro G X hI hZ hV hR
  have hRet := hI rfl r rfl
  refine (show TM G (r, h') (mX8_worked h x0 x1 x2) (wX ad dA tt h) 0 0 0 [(0, .int x0), (1, .int x1), (2, .int x2), (3, .ref (ad 30))] [] from ?_) hm
  clear hm hI hZ hV hR
  unfold mX8_worked
  refine tm_iload_n X 0 dX8_worked_0 rfl rfl ?_
  refine tm_sw (j := 0) (42 : Int32) 40 X dX8_worked_1 (by decide) (by decide) rfl rfl ?_ (fun hs1 => ?_)
  · skip
    refine tm_iload_n X 1 dX8_worked_40 rfl rfl ?_
    refine tm_iload_n X 2 dX8_worked_41 rfl rfl ?_
    refine tm_imul X dX8_worked_42 ?_
    exact tm_retIH (wf := wX ad dA tt) hRet dX8_worked_43
  refine tm_sw (j := 1) (43 : Int32) 32 X dX8_worked_1 (by decide) (by decide) rfl rfl ?_ (fun hs2 => ?_)
  · skip
    refine tm_iload_n X 1 dX8_worked_32 rfl rfl ?_
    refine tm_iload_n X 2 dX8_worked_33 rfl rfl ?_
    refine tm_iadd X dX8_worked_34 ?_
    exact tm_retIH (wf := wX ad dA tt) hRet dX8_worked_35
  refine tm_sw (j := 2) (44 : Int32) 44 X dX8_worked_1 (by decide) (by decide) rfl rfl ?_ (fun hs6 => ?_)
  · skip
    refine tm_iload_n X 2 dX8_worked_44 rfl rfl ?_
    refine tm_let (fun k => ∀ (h3 : Hp), TM G (r, h') (k h3) (wX ad dA tt h3) 0 0 53 [(0, .int x0), (1, .int x1), (2, .int x2)] []) ?_ (fun k53 hk53 => ?_)
    · intro h3
      refine tm_iload_n X 2 dX8_worked_53 rfl rfl ?_
      refine tm_let (fun k => ∀ (s4 : Int32), TM G (r, h') (k s4) (wX ad dA tt h3) 0 0 76 [] [.int s4]) ?_ (fun k76 hk76 => ?_)
      · intro s4
        exact tm_retIH (wf := wX ad dA tt) hRet dX8_worked_76
      · skip
        refine tm_if_ne X 61 dX8_worked_54 rfl ?_ ?_
        · skip
          refine tm_iload_n X 0 dX8_worked_61 rfl rfl ?_
          refine tm_bipush X (47 : Int32) dX8_worked_62 (by decide) ?_
          refine tm_ic_ne X 73 dX8_worked_64 rfl ?_ ?_
          · skip
            refine tm_iload_n X 1 dX8_worked_73 rfl rfl ?_
            refine tm_iload_n X 2 dX8_worked_74 rfl rfl ?_
            refine tm_iremz X dX8_worked_75 ?_
            refine tm_lv X [] rfl ?_
            exact hk76 (jrem x1 x2)
          · skip
            refine tm_iload_n X 1 dX8_worked_67 rfl rfl ?_
            refine tm_iload_n X 2 dX8_worked_68 rfl rfl ?_
            refine tm_idivz X dX8_worked_69 ?_
            refine tm_goto X 76 dX8_worked_70 rfl ?_
            refine tm_lv X [] rfl ?_
            exact hk76 (x1 / x2)
        · skip
          refine tm_iconst X (0 : Int32) dX8_worked_57 (by decide) ?_
          refine tm_goto X 76 dX8_worked_58 rfl ?_
          refine tm_lv X [] rfl ?_
          exact hk76 (0 : Int32)
    · skip
      refine tm_if_ne X 53 dX8_worked_45 rfl ?_ ?_
      · skip
        refine tm_lv X [0, 1, 2] rfl ?_
        exact hk53 h
      · skip
        refine tm_aload_n X 3 dX8_worked_48 rfl rfl ?_
        refine tm_iconst X (1 : Int32) dX8_worked_49 (by decide) ?_
        refine tm_putZN X (fiX_30_1 ad dA tt) in_X2 rfl (Nat.le_of_ble_eq_true rfl) tyX2 tyX2_ok nmX2 rfl rfl rfl rfl q162 rfl dX8_worked_50 (fun h5 => ?_)
        refine tm_lv X [0, 1, 2] rfl ?_
        exact hk53 h5
  refine tm_sw (j := 3) (45 : Int32) 36 X dX8_worked_1 (by decide) (by decide) rfl rfl ?_ (fun hs7 => ?_)
  · skip
    refine tm_iload_n X 1 dX8_worked_36 rfl rfl ?_
    refine tm_iload_n X 2 dX8_worked_37 rfl rfl ?_
    refine tm_isub X dX8_worked_38 ?_
    exact tm_retIH (wf := wX ad dA tt) hRet dX8_worked_39
  refine tm_swd 44 X dX8_worked_1 (by have := ne_toInt hs1 (n := 42) (by decide); have := ne_toInt hs2 (n := 43) (by decide); have := ne_toInt hs6 (n := 44) (by decide); have := ne_toInt hs7 (n := 45) (by decide); omega) rfl ?_
  refine tm_iload_n X 2 dX8_worked_44 rfl rfl ?_
  refine tm_let (fun k => ∀ (h8 : Hp), TM G (r, h') (k h8) (wX ad dA tt h8) 0 0 53 [(0, .int x0), (1, .int x1), (2, .int x2)] []) ?_ (fun k53 hk53 => ?_)
  · intro h8
    refine tm_iload_n X 2 dX8_worked_53 rfl rfl ?_
    refine tm_let (fun k => ∀ (s9 : Int32), TM G (r, h') (k s9) (wX ad dA tt h8) 0 0 76 [] [.int s9]) ?_ (fun k76 hk76 => ?_)
    · intro s9
      exact tm_retIH (wf := wX ad dA tt) hRet dX8_worked_76
    · skip
      refine tm_if_ne X 61 dX8_worked_54 rfl ?_ ?_
      · skip
        refine tm_iload_n X 0 dX8_worked_61 rfl rfl ?_
        refine tm_bipush X (47 : Int32) dX8_worked_62 (by decide) ?_
        refine tm_ic_ne X 73 dX8_worked_64 rfl ?_ ?_
        · skip
          refine tm_iload_n X 1 dX8_worked_73 rfl rfl ?_
          refine tm_iload_n X 2 dX8_worked_74 rfl rfl ?_
          refine tm_iremz X dX8_worked_75 ?_
          refine tm_lv X [] rfl ?_
          exact hk76 (jrem x1 x2)
        · skip
          refine tm_iload_n X 1 dX8_worked_67 rfl rfl ?_
          refine tm_iload_n X 2 dX8_worked_68 rfl rfl ?_
          refine tm_idivz X dX8_worked_69 ?_
          refine tm_goto X 76 dX8_worked_70 rfl ?_
          refine tm_lv X [] rfl ?_
          exact hk76 (x1 / x2)
      · skip
        refine tm_iconst X (0 : Int32) dX8_worked_57 (by decide) ?_
        refine tm_goto X 76 dX8_worked_58 rfl ?_
        refine tm_lv X [] rfl ?_
        exact hk76 (0 : Int32)
  · skip
    refine tm_if_ne X 53 dX8_worked_45 rfl ?_ ?_
    · skip
      refine tm_lv X [0, 1, 2] rfl ?_
      exact hk53 h
    · skip
      refine tm_aload_n X 3 dX8_worked_48 rfl rfl ?_
      refine tm_iconst X (1 : Int32) dX8_worked_49 (by decide) ?_
      refine tm_putZN X (fiX_30_1 ad dA tt) in_X2 rfl (Nat.le_of_ble_eq_true rfl) tyX2 tyX2_ok nmX2 rfl rfl rfl rfl q162 rfl dX8_worked_50 (fun h10 => ?_)
      refine tm_lv X [0, 1, 2] rfl ?_
      exact hk53 h10
def mX9_worth (tt : (Nat → Option Nat) × (Nat → Option Nat) × va_W) (n : Int32) (h : Hp)  : Option (Int32 × Hp) :=
some (n, h)
theorem cyX9_worth : Callee yX9_worth 1 := by unfold Callee; decide +kernel
set_option maxHeartbeats 4000000 in
theorem ctX9_worth (fr lo : Nat) (l : Launch) (D : va_G) (ad : Nat → Nat) (dA : Nat → ClassId) (tt : (Nat → Option Nat) × (Nat → Option Nat) × va_W) (a : Nat) (n : Int32) (hnd : ndNum tt.2.2 a = some n) (h : Hp)  (r : Int32) (h' : Hp) (hm : mX9_worth tt n h = some (r, h')) : CT l yX9_worth cX9_worth 2 (some .int) D dA fr lo 0 0 (wX ad dA tt h) [.ref a, .ref (ad 30)] (some (.int r)) (wX ad dA tt h') := by
  refine ct_open (by decide) (Nat.le_of_ble_eq_true rfl) ?_
  intro G X hI hZ hV hR
  have hRet := hI rfl r rfl
  refine (show TM G (r, h') (mX9_worth tt n h) (wX ad dA tt h) 0 0 0 [(0, .ref a), (1, .ref (ad 30))] [] from ?_) hm
  clear hm hI hZ hV hR
  unfold mX9_worth
  refine tm_aload_n X 0 dX9_worth_0 rfl rfl ?_
  refine tm_getT (f := 0) X (ndNum_s hnd) in_X9 rfl (Nat.le_of_ble_eq_true rfl) rfl q513 rfl dX9_worth_1 ?_
  exact tm_retIH (wf := wX ad dA tt) hRet dX9_worth_4
def mX10_worth (tt : (Nat → Option Nat) × (Nat → Option Nat) × va_W) (n : Int32) (h : Hp)  : Option (Int32 × Hp) :=
ck n 128 (
some ((h 31 n.toNatClampNeg), h))
theorem cyX10_worth : Callee yX10_worth 1 := by unfold Callee; decide +kernel
set_option maxHeartbeats 4000000 in
theorem ctX10_worth (fr lo : Nat) (l : Launch) (D : va_G) (ad : Nat → Nat) (dA : Nat → ClassId) (tt : (Nat → Option Nat) × (Nat → Option Nat) × va_W) (a : Nat) (n : Int32) (hnd : ndLet tt.2.2 a = some n) (h : Hp)  (r : Int32) (h' : Hp) (hm : mX10_worth tt n h = some (r, h')) : CT l yX10_worth cX10_worth 2 (some .int) D dA fr lo 0 0 (wX ad dA tt h) [.ref a, .ref (ad 30)] (some (.int r)) (wX ad dA tt h') := by
  refine ct_open (by decide) (Nat.le_of_ble_eq_true rfl) ?_
  intro G X hI hZ hV hR
  have hRet := hI rfl r rfl
  refine (show TM G (r, h') (mX10_worth tt n h) (wX ad dA tt h) 0 0 0 [(0, .ref a), (1, .ref (ad 30))] [] from ?_) hm
  clear hm hI hZ hV hR
  unfold mX10_worth
  refine tm_aload_n X 1 dX10_worth_0 rfl rfl ?_
  refine tm_getRN X (frX_30_0 ad dA tt h) in_X2 rfl (Nat.le_of_ble_eq_true rfl) q160 rfl dX10_worth_1 ?_
  refine tm_aload_n X 0 dX10_worth_4 rfl rfl ?_
  refine tm_getT (f := 0) X (ndLet_s hnd) in_X10 rfl (Nat.le_of_ble_eq_true rfl) rfl q524 rfl dX10_worth_5 ?_
  refine tm_iaload X (arX_31 ad dA tt) dX10_worth_8 ?_
  exact tm_retIH (wf := wX ad dA tt) hRet dX10_worth_9
def mX8_worth (tt : (Nat → Option Nat) × (Nat → Option Nat) × va_W) (F : Nat → Hp → Option (Int32 × Hp)) (sg : Int32) (pa : Nat) (nx : Option Nat) (h : Hp)  : Option (Int32 × Hp) :=
cl2 (F pa h) (fun r1 h2 =>
fx FU (fun _ _ _ => none) (fun k14 (x2_4 : Int32) (x3_5 : Option Nat) (h6 : Hp) =>
ifn x3_5 (
some (x2_4, h6)) (fun a7 =>
cl3 (ndRow tt.2.2 a7) (fun y8 n9 z10 =>
cl2 (F n9 h6) (fun r12 h13 =>
cl2 (mX8_worked h13 y8 x2_4 r12) (fun r15 h16 =>
k14 r15 z10 h16))))) r1 nx h2)
theorem cyX8_worth : Callee yX8_worth 1 := by unfold Callee; decide +kernel
set_option maxHeartbeats 4000000 in
theorem ctX8_worth (F : Nat → Hp → Option (Int32 × Hp)) (fr lo : Nat) (l : Launch) (D : va_G) (ad : Nat → Nat) (dA : Nat → ClassId) (tt : (Nat → Option Nat) × (Nat → Option Nat) × va_W) (hF : WCT F fr lo l D ad dA tt) (a : Nat) (sg : Int32) (pa : Nat) (nx : Option Nat) (hnd : ndRow tt.2.2 a = some (sg, pa, nx)) (h : Hp)  (r : Int32) (h' : Hp) (hm : mX8_worth tt F sg pa nx h = some (r, h')) : CT l yX8_worth cX8_worth 4 (some .int) D dA (fr + 1) (lo + 23) 0 0 (wX ad dA tt h) [.ref a, .ref (ad 30)] (some (.int r)) (wX ad dA tt h') := by
  refine ct_open (by decide) (Nat.le_of_ble_eq_true rfl) ?_
  intro G X hI hZ hV hR
  have hRet := hI rfl r rfl
  refine (show TM G (r, h') (mX8_worth tt F sg pa nx h) (wX ad dA tt h) 0 0 0 [(0, .ref a), (1, .ref (ad 30))] [] from ?_) hm
  clear hm hI hZ hV hR
  unfold mX8_worth
  refine tm_aload_n X 0 dX8_worth_0 rfl rfl ?_
  refine tm_getT (f := 1) X (ndRow_s hnd) in_X8 rfl (Nat.le_of_ble_eq_true rfl) rfl q533 rfl dX8_worth_1 ?_
  refine tm_aload_n X 1 dX8_worth_4 rfl rfl ?_
  refine tm_cl2 (fun r1 h2 e3 => ?_)
  refine tm_worth (rest := []) X hF q1115 e3 ⟨by omega, by omega⟩ (Nat.le_of_ble_eq_true rfl) dX8_worth_5 ⟨Nat.le_of_ble_eq_true rfl, Nat.le_of_ble_eq_true rfl⟩ ?_
  refine tm_istore_n X [(2, .int r1), (0, .ref a), (1, .ref (ad 30))] dX8_worth_8 rfl (Nat.le_of_ble_eq_true rfl) rfl ?_
  refine tm_aload_n X 1 dX8_worth_9 rfl rfl ?_
  refine tm_getT (f := 2) X (ndRow_s hnd) in_X8 rfl (Nat.le_of_ble_eq_true rfl) rfl q534 rfl dX8_worth_10 ?_
  refine tm_astore_nq X [(3, va_rf nx), (2, .int r1), (0, .ref a), (1, .ref (ad 30))] dX8_worth_13 rfl (Nat.le_of_ble_eq_true rfl) rfl ?_
  refine tm_lv X [3, 1, 0] rfl ?_
  refine fx_P (fun (k : Int32 → Option Nat → Hp → Option (Int32 × Hp)) => ∀ (x2_4 : Int32) (x3_5 : Option Nat) (h6 : Hp), TM G (r, h') (k x2_4 x3_5 h6) (wX ad dA tt h6) 0 0 14 [(1, .ref (ad 30)), (2, .int x2_4), (3, va_rf x3_5)] []) (fun _ _ _ => tm_none) (fun k14 hk14 x2_4 x3_5 h6 => ?_) FU r1 nx h2
  refine tm_aload_nq X 2 dX8_worth_14 rfl rfl ?_
  refine tm_ifnullq X 44 dX8_worth_15 rfl ?_ ?_
  · rintro rfl
    refine tm_iload_n X 1 dX8_worth_44 rfl rfl ?_
    exact tm_retIH (wf := wX ad dA tt) hRet dX8_worth_45
  · rintro a7 rfl
    refine tm_aload_n X 2 dX8_worth_18 rfl rfl ?_
    refine tm_cl3 (fun y8 n9 z10 hn11 => ?_)
    refine tm_getT (f := 0) X (ndRow_s hn11) in_X8 rfl (Nat.le_of_ble_eq_true rfl) rfl q532 rfl dX8_worth_19 ?_
    refine tm_iload_n X 1 dX8_worth_22 rfl rfl ?_
    refine tm_aload_n X 2 dX8_worth_23 rfl rfl ?_
    refine tm_getT (f := 1) X (ndRow_s hn11) in_X8 rfl (Nat.le_of_ble_eq_true rfl) rfl q533 rfl dX8_worth_24 ?_
    refine tm_aload_n X 0 dX8_worth_27 rfl rfl ?_
    refine tm_cl2 (fun r12 h13 e14 => ?_)
    refine tm_worth (rest := [.int x2_4, .int y8]) X hF q1115 e14 ⟨by omega, by omega⟩ (Nat.le_of_ble_eq_true rfl) dX8_worth_28 ⟨Nat.le_of_ble_eq_true rfl, Nat.le_of_ble_eq_true rfl⟩ ?_
    refine tm_aload_n X 0 dX8_worth_31 rfl rfl ?_
    refine tm_cl2 (fun r15 h16 e17 => ?_)
    refine tm_callSX (As := [.int y8, .int x2_4, .int r12, .ref (ad 30)]) (rest := []) X (ctX8_worked l D ad dA tt h13 y8 x2_4 r12 r15 h16 e17) (lw_S q1116 q1117 q131 q1118) cyX8_worked rfl ⟨by omega, by omega⟩ (Nat.le_of_ble_eq_true rfl) dX8_worth_32 ⟨Nat.le_of_ble_eq_true rfl, Nat.le_of_ble_eq_true rfl⟩ rfl ?_
    refine tm_istore_n X [(2, .int r15), (1, .ref (ad 30)), (3, .ref a7)] dX8_worth_35 rfl (Nat.le_of_ble_eq_true rfl) rfl ?_
    refine tm_aload_n X 2 dX8_worth_36 rfl rfl ?_
    refine tm_getT (f := 2) X (ndRow_s hn11) in_X8 rfl (Nat.le_of_ble_eq_true rfl) rfl q534 rfl dX8_worth_37 ?_
    refine tm_astore_nq X [(3, va_rf z10), (2, .int r15), (1, .ref (ad 30))] dX8_worth_40 rfl (Nat.le_of_ble_eq_true rfl) rfl ?_
    refine tm_goto X 14 dX8_worth_41 rfl ?_
    refine tm_lv X [2, 1, 0] rfl ?_
    exact hk14 r15 z10 h16
def mX14_holds (tt : (Nat → Option Nat) × (Nat → Option Nat) × va_W) (F : Nat → Hp → Option (Int32 × Hp)) (px : Nat) (py : Nat) (sg : Int32) (h : Hp)  : Option (Int32 × Hp) :=
nm (u2 h 30 1 (0 : Int32)) (fun h1 =>
cl2 (F px h1) (fun r2 h3 =>
cl2 (F py h3) (fun r5 h6 =>
nm (fun (s8 : Int32) =>
nm (fun (s9 : Int32) =>
some (s9, h6)) (fun k100 =>
if (h6 30 1) = 0 then (
if s8 = 0 then (
k100 (0 : Int32)) else (
k100 (1 : Int32))) else (
k100 (2 : Int32)))) (fun k77 =>
if sg = (60 : Int32) then (
if r5 ≤ r2 then (
k77 (0 : Int32)) else (
k77 (1 : Int32))) else (
if sg = (62 : Int32) then (
if r2 ≤ r5 then (
k77 (0 : Int32)) else (
k77 (1 : Int32))) else (
if r2 = r5 then (
k77 (1 : Int32)) else (
k77 (0 : Int32))))))))
theorem cyX14_holds : Callee yX14_holds 1 := by unfold Callee; decide +kernel
set_option maxHeartbeats 4000000 in
theorem ctX14_holds (F : Nat → Hp → Option (Int32 × Hp)) (fr lo : Nat) (l : Launch) (D : va_G) (ad : Nat → Nat) (dA : Nat → ClassId) (tt : (Nat → Option Nat) × (Nat → Option Nat) × va_W) (hF : WCT F fr lo l D ad dA tt) (a : Nat) (px : Nat) (py : Nat) (sg : Int32) (hnd : ndCmp tt.2.2 a = some (px, py, sg)) (h : Hp)  (r : Int32) (h' : Hp) (hm : mX14_holds tt F px py sg h = some (r, h')) : CT l yX14_holds cX14_holds 5 (some .int) D dA (fr + 1) (lo + 23) 0 0 (wX ad dA tt h) [.ref a, .ref (ad 30)] (some (.int r)) (wX ad dA tt h') := by
  refine ct_open (by decide) (Nat.le_of_ble_eq_true rfl) ?_
  intro G X hI hZ hV hR
  have hRet := hI rfl r rfl
  refine (show TM G (r, h') (mX14_holds tt F px py sg h) (wX ad dA tt h) 0 0 0 [(0, .ref a), (1, .ref (ad 30))] [] from ?_) hm
  clear hm hI hZ hV hR
  unfold mX14_holds
  refine tm_aload_n X 1 dX14_holds_0 rfl rfl ?_
  refine tm_iconst X (0 : Int32) dX14_holds_1 (by decide) ?_
  refine tm_putZN X (fiX_30_1 ad dA tt) in_X2 rfl (Nat.le_of_ble_eq_true rfl) tyX2 tyX2_ok nmX2 rfl rfl rfl rfl q161 rfl dX14_holds_2 (fun h1 => ?_)
  refine tm_aload_n X 0 dX14_holds_5 rfl rfl ?_
  refine tm_getT (f := 0) X (ndCmp_s hnd) in_X14 rfl (Nat.le_of_ble_eq_true rfl) rfl q576 rfl dX14_holds_6 ?_
  refine tm_aload_n X 1 dX14_holds_9 rfl rfl ?_
  refine tm_cl2 (fun r2 h3 e4 => ?_)
  refine tm_worth (rest := []) X hF q1103 e4 ⟨by omega, by omega⟩ (Nat.le_of_ble_eq_true rfl) dX14_holds_10 ⟨Nat.le_of_ble_eq_true rfl, Nat.le_of_ble_eq_true rfl⟩ ?_
  refine tm_istore_n X [(2, .int r2), (0, .ref a), (1, .ref (ad 30))] dX14_holds_13 rfl (Nat.le_of_ble_eq_true rfl) rfl ?_
  refine tm_aload_n X 1 dX14_holds_14 rfl rfl ?_
  refine tm_getT (f := 1) X (ndCmp_s hnd) in_X14 rfl (Nat.le_of_ble_eq_true rfl) rfl q577 rfl dX14_holds_15 ?_
  refine tm_aload_n X 2 dX14_holds_18 rfl rfl ?_
  refine tm_cl2 (fun r5 h6 e7 => ?_)
  refine tm_worth (rest := []) X hF q1103 e7 ⟨by omega, by omega⟩ (Nat.le_of_ble_eq_true rfl) dX14_holds_19 ⟨Nat.le_of_ble_eq_true rfl, Nat.le_of_ble_eq_true rfl⟩ ?_
  refine tm_istore_n X [(3, .int r5), (2, .int r2), (0, .ref a), (1, .ref (ad 30))] dX14_holds_22 rfl (Nat.le_of_ble_eq_true rfl) rfl ?_
  refine tm_aload_n X 2 dX14_holds_23 rfl rfl ?_
  refine tm_getT (f := 2) X (ndCmp_s hnd) in_X14 rfl (Nat.le_of_ble_eq_true rfl) rfl q578 rfl dX14_holds_24 ?_
  refine tm_bipush X (60 : Int32) dX14_holds_27 (by decide) ?_
  refine tm_let (fun k => ∀ (s8 : Int32), TM G (r, h') (k s8) (wX ad dA tt h6) 0 0 77 [(1, .ref (ad 30))] [.int s8]) ?_ (fun k77 hk77 => ?_)
  · intro s8
    refine tm_istore X [(4, .int s8), (1, .ref (ad 30))] dX14_holds_77 (Nat.le_of_ble_eq_true rfl) rfl ?_
    refine tm_aload_n X 1 dX14_holds_79 rfl rfl ?_
    refine tm_getIN X (fiX_30_1 ad dA tt) in_X2 rfl (Nat.le_of_ble_eq_true rfl) q161 rfl dX14_holds_80 ?_
    refine tm_let (fun k => ∀ (s9 : Int32), TM G (r, h') (k s9) (wX ad dA tt h6) 0 0 100 [] [.int s9]) ?_ (fun k100 hk100 => ?_)
    · intro s9
      exact tm_retIH (wf := wX ad dA tt) hRet dX14_holds_100
    · skip
      refine tm_if_eq X 90 dX14_holds_83 rfl ?_ ?_
      · skip
        refine tm_iload X 0 dX14_holds_90 rfl ?_
        refine tm_if_eq X 99 dX14_holds_92 rfl ?_ ?_
        · skip
          refine tm_iconst X (0 : Int32) dX14_holds_99 (by decide) ?_
          refine tm_lv X [] rfl ?_
          exact hk100 (0 : Int32)
        · skip
          refine tm_iconst X (1 : Int32) dX14_holds_95 (by decide) ?_
          refine tm_goto X 100 dX14_holds_96 rfl ?_
          refine tm_lv X [] rfl ?_
          exact hk100 (1 : Int32)
      · skip
        refine tm_iconst X (2 : Int32) dX14_holds_86 (by decide) ?_
        refine tm_goto X 100 dX14_holds_87 rfl ?_
        refine tm_lv X [] rfl ?_
        exact hk100 (2 : Int32)
  · skip
    refine tm_ic_ne X 45 dX14_holds_29 rfl ?_ ?_
    · skip
      refine tm_aload_n X 2 dX14_holds_45 rfl rfl ?_
      refine tm_getT (f := 2) X (ndCmp_s hnd) in_X14 rfl (Nat.le_of_ble_eq_true rfl) rfl q578 rfl dX14_holds_46 ?_
      refine tm_bipush X (62 : Int32) dX14_holds_49 (by decide) ?_
      refine tm_ic_ne X 67 dX14_holds_51 rfl ?_ ?_
      · skip
        refine tm_iload_n X 1 dX14_holds_67 rfl rfl ?_
        refine tm_iload_n X 0 dX14_holds_68 rfl rfl ?_
        refine tm_ic_ne X 76 dX14_holds_69 rfl ?_ ?_
        · skip
          refine tm_iconst X (0 : Int32) dX14_holds_76 (by decide) ?_
          refine tm_lv X [3] rfl ?_
          exact hk77 (0 : Int32)
        · skip
          refine tm_iconst X (1 : Int32) dX14_holds_72 (by decide) ?_
          refine tm_goto X 77 dX14_holds_73 rfl ?_
          refine tm_lv X [3] rfl ?_
          exact hk77 (1 : Int32)
      · skip
        refine tm_iload_n X 1 dX14_holds_54 rfl rfl ?_
        refine tm_iload_n X 0 dX14_holds_55 rfl rfl ?_
        refine tm_ic_le X 63 dX14_holds_56 rfl ?_ ?_
        · skip
          refine tm_iconst X (0 : Int32) dX14_holds_63 (by decide) ?_
          refine tm_goto X 77 dX14_holds_64 rfl ?_
          refine tm_lv X [3] rfl ?_
          exact hk77 (0 : Int32)
        · skip
          refine tm_iconst X (1 : Int32) dX14_holds_59 (by decide) ?_
          refine tm_goto X 77 dX14_holds_60 rfl ?_
          refine tm_lv X [3] rfl ?_
          exact hk77 (1 : Int32)
    · skip
      refine tm_iload_n X 1 dX14_holds_32 rfl rfl ?_
      refine tm_iload_n X 0 dX14_holds_33 rfl rfl ?_
      refine tm_ic_ge X 41 dX14_holds_34 rfl ?_ ?_
      · skip
        refine tm_iconst X (0 : Int32) dX14_holds_41 (by decide) ?_
        refine tm_goto X 77 dX14_holds_42 rfl ?_
        refine tm_lv X [3] rfl ?_
        exact hk77 (0 : Int32)
      · skip
        refine tm_iconst X (1 : Int32) dX14_holds_37 (by decide) ?_
        refine tm_goto X 77 dX14_holds_38 rfl ?_
        refine tm_lv X [3] rfl ?_
        exact hk77 (1 : Int32)
def mX13_holds (tt : (Nat → Option Nat) × (Nat → Option Nat) × va_W) (E : Nat → Hp → Option (Int32 × Hp)) (px : Nat) (h : Hp)  : Option (Int32 × Hp) :=
cl2 (E px h) (fun r1 h2 =>
nm (fun (s4 : Int32) =>
some (s4, h2)) (fun k21 =>
if r1 = (2 : Int32) then (
k21 (2 : Int32)) else (
k21 ((1 : Int32) - r1))))
theorem cyX13_holds : Callee yX13_holds 1 := by unfold Callee; decide +kernel
set_option maxHeartbeats 4000000 in
theorem ctX13_holds (E : Nat → Hp → Option (Int32 × Hp)) (fr lo : Nat) (l : Launch) (D : va_G) (ad : Nat → Nat) (dA : Nat → ClassId) (tt : (Nat → Option Nat) × (Nat → Option Nat) × va_W) (hE : HCT E fr lo l D ad dA tt) (a : Nat) (px : Nat) (hnd : ndNot tt.2.2 a = some px) (h : Hp)  (r : Int32) (h' : Hp) (hm : mX13_holds tt E px h = some (r, h')) : CT l yX13_holds cX13_holds 3 (some .int) D dA (fr + 1) (lo + 24) 0 0 (wX ad dA tt h) [.ref a, .ref (ad 30)] (some (.int r)) (wX ad dA tt h') := by
  refine ct_open (by decide) (Nat.le_of_ble_eq_true rfl) ?_
  intro G X hI hZ hV hR
  have hRet := hI rfl r rfl
  refine (show TM G (r, h') (mX13_holds tt E px h) (wX ad dA tt h) 0 0 0 [(0, .ref a), (1, .ref (ad 30))] [] from ?_) hm
  clear hm hI hZ hV hR
  unfold mX13_holds
  refine tm_aload_n X 0 dX13_holds_0 rfl rfl ?_
  refine tm_getT (f := 0) X (ndNot_s hnd) in_X13 rfl (Nat.le_of_ble_eq_true rfl) rfl q566 rfl dX13_holds_1 ?_
  refine tm_aload_n X 1 dX13_holds_4 rfl rfl ?_
  refine tm_cl2 (fun r1 h2 e3 => ?_)
  refine tm_holds (rest := []) X hE q1122 e3 ⟨by omega, by omega⟩ (Nat.le_of_ble_eq_true rfl) dX13_holds_5 ⟨Nat.le_of_ble_eq_true rfl, Nat.le_of_ble_eq_true rfl⟩ ?_
  refine tm_istore_n X [(2, .int r1), (0, .ref a), (1, .ref (ad 30))] dX13_holds_8 rfl (Nat.le_of_ble_eq_true rfl) rfl ?_
  refine tm_iload_n X 0 dX13_holds_9 rfl rfl ?_
  refine tm_iconst X (2 : Int32) dX13_holds_10 (by decide) ?_
  refine tm_let (fun k => ∀ (s4 : Int32), TM G (r, h') (k s4) (wX ad dA tt h2) 0 0 21 [] [.int s4]) ?_ (fun k21 hk21 => ?_)
  · intro s4
    exact tm_retIH (wf := wX ad dA tt) hRet dX13_holds_21
  · skip
    refine tm_ic_ne X 18 dX13_holds_11 rfl ?_ ?_
    · skip
      refine tm_iconst X (1 : Int32) dX13_holds_18 (by decide) ?_
      refine tm_iload_n X 0 dX13_holds_19 rfl rfl ?_
      refine tm_isub X dX13_holds_20 ?_
      refine tm_lv X [] rfl ?_
      exact hk21 ((1 : Int32) - r1)
    · skip
      refine tm_iconst X (2 : Int32) dX13_holds_14 (by decide) ?_
      refine tm_goto X 21 dX13_holds_15 rfl ?_
      refine tm_lv X [] rfl ?_
      exact hk21 (2 : Int32)
def mX12_holds (tt : (Nat → Option Nat) × (Nat → Option Nat) × va_W) (E : Nat → Hp → Option (Int32 × Hp)) (pa : Nat) (de : Int32) (nx : Option Nat) (a : Nat) (h : Hp)  : Option (Int32 × Hp) :=
fx FU (fun _ _ => none) (fun k2 (x2_1 : Option Nat) (h2 : Hp) =>
ifn x2_1 (
some (((1 : Int32) - de), h2)) (fun a3 =>
cl3 (ndSome tt.2.2 a3) (fun n4 y5 z6 =>
cl2 (E n4 h2) (fun r8 h9 =>
nm (
some (r8, h9)) (fun k28 =>
if r8 = (2 : Int32) then (
k28) else (
if r8 = de then (
k28) else (
k2 z6 h9))))))) (some a) h
theorem cyX12_holds : Callee yX12_holds 1 := by unfold Callee; decide +kernel
set_option maxHeartbeats 4000000 in
theorem ctX12_holds (E : Nat → Hp → Option (Int32 × Hp)) (fr lo : Nat) (l : Launch) (D : va_G) (ad : Nat → Nat) (dA : Nat → ClassId) (tt : (Nat → Option Nat) × (Nat → Option Nat) × va_W) (hE : HCT E fr lo l D ad dA tt) (a : Nat) (pa : Nat) (de : Int32) (nx : Option Nat) (hnd : ndSome tt.2.2 a = some (pa, de, nx)) (h : Hp)  (r : Int32) (h' : Hp) (hm : mX12_holds tt E pa de nx a h = some (r, h')) : CT l yX12_holds cX12_holds 4 (some .int) D dA (fr + 1) (lo + 24) 0 0 (wX ad dA tt h) [.ref a, .ref (ad 30)] (some (.int r)) (wX ad dA tt h') := by
  refine ct_open (by decide) (Nat.le_of_ble_eq_true rfl) ?_
  intro G X hI hZ hV hR
  have hRet := hI rfl r rfl
  refine (show TM G (r, h') (mX12_holds tt E pa de nx a h) (wX ad dA tt h) 0 0 0 [(0, .ref a), (1, .ref (ad 30))] [] from ?_) hm
  clear hm hI hZ hV hR
  unfold mX12_holds
  refine tm_aload_n X 0 dX12_holds_0 rfl rfl ?_
  refine tm_astore_n X [(2, .ref a), (0, .ref a), (1, .ref (ad 30))] dX12_holds_1 rfl (Nat.le_of_ble_eq_true rfl) rfl ?_
  refine tm_lv X [1, 2, 0] rfl ?_
  refine fx_P (fun (k : Option Nat → Hp → Option (Int32 × Hp)) => ∀ (x2_1 : Option Nat) (h2 : Hp), TM G (r, h') (k x2_1 h2) (wX ad dA tt h2) 0 0 2 [(0, .ref a), (1, .ref (ad 30)), (2, va_rf x2_1)] []) (fun _ _ => tm_none) (fun k2 hk2 x2_1 h2 => ?_) FU (some a) h
  refine tm_aload_nq X 2 dX12_holds_2 rfl rfl ?_
  refine tm_ifnullq X 38 dX12_holds_3 rfl ?_ ?_
  · rintro rfl
    refine tm_iconst X (1 : Int32) dX12_holds_38 (by decide) ?_
    refine tm_aload_n X 0 dX12_holds_39 rfl rfl ?_
    refine tm_getT (f := 1) X (ndSome_s hnd) in_X12 rfl (Nat.le_of_ble_eq_true rfl) rfl q591 rfl dX12_holds_40 ?_
    refine tm_isub X dX12_holds_43 ?_
    exact tm_retIH (wf := wX ad dA tt) hRet dX12_holds_44
  · rintro a3 rfl
    refine tm_aload_n X 2 dX12_holds_6 rfl rfl ?_
    refine tm_cl3 (fun n4 y5 z6 hn7 => ?_)
    refine tm_getT (f := 0) X (ndSome_s hn7) in_X12 rfl (Nat.le_of_ble_eq_true rfl) rfl q590 rfl dX12_holds_7 ?_
    refine tm_aload_n X 1 dX12_holds_10 rfl rfl ?_
    refine tm_cl2 (fun r8 h9 e10 => ?_)
    refine tm_holds (rest := []) X hE q1125 e10 ⟨by omega, by omega⟩ (Nat.le_of_ble_eq_true rfl) dX12_holds_11 ⟨Nat.le_of_ble_eq_true rfl, Nat.le_of_ble_eq_true rfl⟩ ?_
    refine tm_istore_n X [(3, .int r8), (0, .ref a), (1, .ref (ad 30)), (2, .ref a3)] dX12_holds_14 rfl (Nat.le_of_ble_eq_true rfl) rfl ?_
    refine tm_iload_n X 0 dX12_holds_15 rfl rfl ?_
    refine tm_iconst X (2 : Int32) dX12_holds_16 (by decide) ?_
    refine tm_let (fun k => TM G (r, h') k (wX ad dA tt h9) 0 0 28 [(3, .int r8)] []) ?_ (fun k28 hk28 => ?_)
    · skip
      refine tm_iload_n X 0 dX12_holds_28 rfl rfl ?_
      exact tm_retIH (wf := wX ad dA tt) hRet dX12_holds_29
    · skip
      refine tm_ic_eq X 28 dX12_holds_17 rfl ?_ ?_
      · skip
        refine tm_lv X [0] rfl ?_
        exact hk28
      · skip
        refine tm_iload_n X 0 dX12_holds_20 rfl rfl ?_
        refine tm_aload_n X 1 dX12_holds_21 rfl rfl ?_
        refine tm_getT (f := 1) X (ndSome_s hnd) in_X12 rfl (Nat.le_of_ble_eq_true rfl) rfl q591 rfl dX12_holds_22 ?_
        refine tm_ic_ne X 30 dX12_holds_25 rfl ?_ ?_
        · skip
          refine tm_aload_n X 3 dX12_holds_30 rfl rfl ?_
          refine tm_getT (f := 2) X (ndSome_s hn7) in_X12 rfl (Nat.le_of_ble_eq_true rfl) rfl q592 rfl dX12_holds_31 ?_
          refine tm_astore_nq X [(2, va_rf z6), (3, .int r8), (0, .ref a), (1, .ref (ad 30))] dX12_holds_34 rfl (Nat.le_of_ble_eq_true rfl) rfl ?_
          refine tm_goto X 2 dX12_holds_35 rfl ?_
          refine tm_lv X [2, 3, 0] rfl ?_
          exact hk2 z6 h9
        · skip
          refine tm_lv X [0] rfl ?_
          exact hk28
def mX7_told (tt : (Nat → Option Nat) × (Nat → Option Nat) × va_W) (F : Nat → Hp → Option (Int32 × Hp)) (a : Nat) (h : Hp)  : Option (Int32 × Hp) :=
nm (u2 h 30 1 (0 : Int32)) (fun h1 =>
cl2 (F a h1) (fun r2 h3 =>
nm (fun (s5 : Int32) =>
some (s5, h3)) (fun k23 =>
if (h3 30 1) = 0 then (
k23 r2) else (
k23 (0 : Int32)))))
theorem cyX7_told : Callee yX7_told 1 := by unfold Callee; decide +kernel
set_option maxHeartbeats 4000000 in
theorem ctX7_told (F : Nat → Hp → Option (Int32 × Hp)) (fr lo : Nat) (l : Launch) (D : va_G) (ad : Nat → Nat) (dA : Nat → ClassId) (tt : (Nat → Option Nat) × (Nat → Option Nat) × va_W) (hF : WCT F fr lo l D ad dA tt) (a : Nat) (h : Hp)  (r : Int32) (h' : Hp) (hm : mX7_told tt F a h = some (r, h')) : CT l yX7_told cX7_told 3 (some .int) D dA (fr + 1) (lo + 23) 0 0 (wX ad dA tt h) [.ref a, .ref (ad 30)] (some (.int r)) (wX ad dA tt h') := by
  refine ct_open (by decide) (Nat.le_of_ble_eq_true rfl) ?_
  intro G X hI hZ hV hR
  have hRet := hI rfl r rfl
  refine (show TM G (r, h') (mX7_told tt F a h) (wX ad dA tt h) 0 0 0 [(0, .ref a), (1, .ref (ad 30))] [] from ?_) hm
  clear hm hI hZ hV hR
  unfold mX7_told
  refine tm_aload_n X 1 dX7_told_0 rfl rfl ?_
  refine tm_iconst X (0 : Int32) dX7_told_1 (by decide) ?_
  refine tm_putZN X (fiX_30_1 ad dA tt) in_X2 rfl (Nat.le_of_ble_eq_true rfl) tyX2 tyX2_ok nmX2 rfl rfl rfl rfl q163 rfl dX7_told_2 (fun h1 => ?_)
  refine tm_aload_n X 0 dX7_told_5 rfl rfl ?_
  refine tm_aload_n X 1 dX7_told_6 rfl rfl ?_
  refine tm_cl2 (fun r2 h3 e4 => ?_)
  refine tm_worth (rest := []) X hF q1138 e4 ⟨by omega, by omega⟩ (Nat.le_of_ble_eq_true rfl) dX7_told_7 ⟨Nat.le_of_ble_eq_true rfl, Nat.le_of_ble_eq_true rfl⟩ ?_
  refine tm_istore_n X [(2, .int r2), (0, .ref a), (1, .ref (ad 30))] dX7_told_10 rfl (Nat.le_of_ble_eq_true rfl) rfl ?_
  refine tm_aload_n X 2 dX7_told_11 rfl rfl ?_
  refine tm_getIN X (fiX_30_1 ad dA tt) in_X2 rfl (Nat.le_of_ble_eq_true rfl) q163 rfl dX7_told_12 ?_
  refine tm_let (fun k => ∀ (s5 : Int32), TM G (r, h') (k s5) (wX ad dA tt h3) 0 0 23 [] [.int s5]) ?_ (fun k23 hk23 => ?_)
  · intro s5
    exact tm_retIH (wf := wX ad dA tt) hRet dX7_told_23
  · skip
    refine tm_if_eq X 22 dX7_told_15 rfl ?_ ?_
    · skip
      refine tm_iload_n X 0 dX7_told_22 rfl rfl ?_
      refine tm_lv X [] rfl ?_
      exact hk23 r2
    · skip
      refine tm_iconst X (0 : Int32) dX7_told_18 (by decide) ?_
      refine tm_goto X 23 dX7_told_19 rfl ?_
      refine tm_lv X [] rfl ?_
      exact hk23 (0 : Int32)
def mX4_says (tt : (Nat → Option Nat) × (Nat → Option Nat) × va_W) (E : Nat → Hp → Option (Int32 × Hp)) (h : Hp) (x1 : Int32) : Option (Int32 × Hp) :=
fx FU (fun _ _ => none) (fun k2 (x3_1 : Int32) (h2 : Hp) =>
if (h2 70 3) ≤ x3_1 then (
bz (0 : Int32) (some ((0 : Int32), h2))) else (
ck x3_1 16 (
nm (fun (h3 : Hp) =>
k2 (x3_1 + (1 : Int32)) h3) (fun k36 =>
if (h2 71 x3_1.toNatClampNeg) = x1 then (
ck x3_1 16 (nm (tt.2.1 x3_1.toNatClampNeg) (fun z4 =>
on z4 (fun a5 =>
cl2 (E a5 h2) (fun r6 h7 =>
if r6 = (1 : Int32) then (
bz (1 : Int32) (some ((1 : Int32), h7))) else (
k36 h7)))))) else (
k36 h2))))) (0 : Int32) h
theorem cyX4_says : Callee yX4_says 2 := by unfold Callee; decide +kernel
set_option maxHeartbeats 4000000 in
theorem ctX4_says (E : Nat → Hp → Option (Int32 × Hp)) (fr lo : Nat) (l : Launch) (D : va_G) (ad : Nat → Nat) (dA : Nat → ClassId) (tt : (Nat → Option Nat) × (Nat → Option Nat) × va_W) (hE : HCT E fr lo l D ad dA tt) (h : Hp) (x1 : Int32) (r : Int32) (h' : Hp) (hm : mX4_says tt E h x1 = some (r, h')) : CT l yX4_says cX4_says 4 (some .boolean) D dA (fr + 1) (lo + 24) 0 0 (wX ad dA tt h) [.ref (ad 70), .int x1, .ref (ad 30)] (some (.int r)) (wX ad dA tt h') := by
  refine ct_open (by decide) (Nat.le_of_ble_eq_true rfl) ?_
  intro G X hI hZ hV hR
  have hRet := fun hv => hZ rfl r hv rfl
  refine (show TM G (r, h') (mX4_says tt E h x1) (wX ad dA tt h) 0 0 0 [(0, .ref (ad 70)), (1, .int x1), (2, .ref (ad 30))] [] from ?_) hm
  clear hm hI hZ hV hR
  unfold mX4_says
  refine tm_iconst X (0 : Int32) dX4_says_0 (by decide) ?_
  refine tm_istore_n X [(3, .int (0 : Int32)), (0, .ref (ad 70)), (1, .int x1), (2, .ref (ad 30))] dX4_says_1 rfl (Nat.le_of_ble_eq_true rfl) rfl ?_
  refine tm_lv X [1, 2, 3, 0] rfl ?_
  refine fx_P (fun (k : Int32 → Hp → Option (Int32 × Hp)) => ∀ (x3_1 : Int32) (h2 : Hp), TM G (r, h') (k x3_1 h2) (wX ad dA tt h2) 0 0 2 [(0, .ref (ad 70)), (1, .int x1), (2, .ref (ad 30)), (3, .int x3_1)] []) (fun _ _ => tm_none) (fun k2 hk2 x3_1 h2 => ?_) FU (0 : Int32) h
  refine tm_iload_n X 3 dX4_says_2 rfl rfl ?_
  refine tm_aload_n X 0 dX4_says_3 rfl rfl ?_
  refine tm_getI X (fiX_70_3 ad dA tt) in_X4 rfl (Nat.le_of_ble_eq_true rfl) q219 rfl dX4_says_4 ?_
  refine tm_ic_ge X 42 dX4_says_7 rfl ?_ ?_
  · skip
    refine tm_iconst X (0 : Int32) dX4_says_42 (by decide) ?_
    exact tm_retZH (wf := wX ad dA tt) hRet dX4_says_43
  · skip
    refine tm_aload_n X 0 dX4_says_10 rfl rfl ?_
    refine tm_getR X (frX_70_0 ad dA tt h2) in_X4 rfl (Nat.le_of_ble_eq_true rfl) q213 rfl dX4_says_11 ?_
    refine tm_iload_n X 3 dX4_says_14 rfl rfl ?_
    refine tm_iaload X (arX_71 ad dA tt) dX4_says_15 ?_
    refine tm_iload_n X 1 dX4_says_16 rfl rfl ?_
    refine tm_let (fun k => ∀ (h3 : Hp), TM G (r, h') (k h3) (wX ad dA tt h3) 0 0 36 [(0, .ref (ad 70)), (1, .int x1), (2, .ref (ad 30)), (3, .int x3_1)] []) ?_ (fun k36 hk36 => ?_)
    · intro h3
      refine tm_iinc (v := (1 : Int32)) X 3 [(3, .int (x3_1 + (1 : Int32))), (0, .ref (ad 70)), (1, .int x1), (2, .ref (ad 30))] dX4_says_36 rfl (by decide) (Nat.le_of_ble_eq_true rfl) rfl ?_
      refine tm_goto X 2 dX4_says_39 rfl ?_
      refine tm_lv X [1, 2, 3, 0] rfl ?_
      exact hk2 (x3_1 + (1 : Int32)) h3
    · skip
      refine tm_ic_ne X 36 dX4_says_17 rfl ?_ ?_
      · skip
        exact hk36 h2
      · skip
        refine tm_aload_n X 0 dX4_says_20 rfl rfl ?_
        refine tm_getR X (frX_70_2 ad dA tt h2) in_X4 rfl (Nat.le_of_ble_eq_true rfl) q217 rfl dX4_says_21 ?_
        refine tm_iload_n X 3 dX4_says_24 rfl rfl ?_
        refine tm_aaldq (q0 := 34) (t0 := 5) X rfl rfl dX4_says_25 ?_
        refine tm_nmQ (fun z4 => ?_)
        refine tm_aload_n X 2 dX4_says_26 rfl rfl ?_
        refine tm_on ?_
        rintro a5 rfl
        refine tm_cl2 (fun r6 h7 e8 => ?_)
        refine tm_holds (rest := []) X hE q1097 e8 ⟨by omega, by omega⟩ (Nat.le_of_ble_eq_true rfl) dX4_says_27 ⟨Nat.le_of_ble_eq_true rfl, Nat.le_of_ble_eq_true rfl⟩ ?_
        refine tm_iconst X (1 : Int32) dX4_says_30 (by decide) ?_
        refine tm_ic_ne X 36 dX4_says_31 rfl ?_ ?_
        · skip
          exact hk36 h7
        · skip
          refine tm_iconst X (1 : Int32) dX4_says_34 (by decide) ?_
          exact tm_retZH (wf := wX ad dA tt) hRet dX4_says_35
def mX4_tells (tt : (Nat → Option Nat) × (Nat → Option Nat) × va_W) (F : Nat → Hp → Option (Int32 × Hp)) (E : Nat → Hp → Option (Int32 × Hp)) (h : Hp) (x1 : Int32) (x2 : Int32) : Option (Int32 × Hp) :=
fx FU (fun _ _ => none) (fun k3 (x4_1 : Int32) (h2 : Hp) =>
if (h2 70 3) ≤ x4_1 then (
some (x2, h2)) else (
ck x4_1 16 (
nm (fun (h3 : Hp) =>
k3 (x4_1 + (1 : Int32)) h3) (fun k50 =>
if (h2 71 x4_1.toNatClampNeg) = x1 then (
ck x4_1 16 (nm (tt.2.1 x4_1.toNatClampNeg) (fun z4 =>
on z4 (fun a5 =>
cl2 (E a5 h2) (fun r6 h7 =>
if r6 = (1 : Int32) then (
ck x4_1 16 (nm (tt.1 x4_1.toNatClampNeg) (fun z9 =>
on z9 (fun a10 =>
cl3 (ndRow tt.2.2 a10) (fun _ _ _ =>
cl2 (mX7_told tt F a10 h7) (fun r14 h15 =>
some (r14, h15))))))) else (
k50 h7)))))) else (
k50 h2))))) (0 : Int32) h
theorem cyX4_tells : Callee yX4_tells 3 := by unfold Callee; decide +kernel
set_option maxHeartbeats 4000000 in
theorem ctX4_tells (F : Nat → Hp → Option (Int32 × Hp)) (E : Nat → Hp → Option (Int32 × Hp)) (fr lo : Nat) (l : Launch) (D : va_G) (ad : Nat → Nat) (dA : Nat → ClassId) (tt : (Nat → Option Nat) × (Nat → Option Nat) × va_W) (hF : WCT F fr lo l D ad dA tt) (hE : HCT E fr lo l D ad dA tt) (h : Hp) (x1 : Int32) (x2 : Int32) (r : Int32) (h' : Hp) (hm : mX4_tells tt F E h x1 x2 = some (r, h')) : CT l yX4_tells cX4_tells 5 (some .int) D dA (fr + 2) (lo + 45) 0 0 (wX ad dA tt h) [.ref (ad 70), .int x1, .int x2, .ref (ad 30)] (some (.int r)) (wX ad dA tt h') := by
  refine ct_open (by decide) (Nat.le_of_ble_eq_true rfl) ?_
  intro G X hI hZ hV hR
  have hRet := hI rfl r rfl
  refine (show TM G (r, h') (mX4_tells tt F E h x1 x2) (wX ad dA tt h) 0 0 0 [(0, .ref (ad 70)), (1, .int x1), (2, .int x2), (3, .ref (ad 30))] [] from ?_) hm
  clear hm hI hZ hV hR
  unfold mX4_tells
  refine tm_iconst X (0 : Int32) dX4_tells_0 (by decide) ?_
  refine tm_istore X [(4, .int (0 : Int32)), (0, .ref (ad 70)), (1, .int x1), (2, .int x2), (3, .ref (ad 30))] dX4_tells_1 (Nat.le_of_ble_eq_true rfl) rfl ?_
  refine tm_lv X [1, 2, 3, 4, 0] rfl ?_
  refine fx_P (fun (k : Int32 → Hp → Option (Int32 × Hp)) => ∀ (x4_1 : Int32) (h2 : Hp), TM G (r, h') (k x4_1 h2) (wX ad dA tt h2) 0 0 3 [(0, .ref (ad 70)), (1, .int x1), (2, .int x2), (3, .ref (ad 30)), (4, .int x4_1)] []) (fun _ _ => tm_none) (fun k3 hk3 x4_1 h2 => ?_) FU (0 : Int32) h
  refine tm_iload X 4 dX4_tells_3 rfl ?_
  refine tm_aload_n X 0 dX4_tells_5 rfl rfl ?_
  refine tm_getI X (fiX_70_3 ad dA tt) in_X4 rfl (Nat.le_of_ble_eq_true rfl) q219 rfl dX4_tells_6 ?_
  refine tm_ic_ge X 56 dX4_tells_9 rfl ?_ ?_
  · skip
    refine tm_iload_n X 2 dX4_tells_56 rfl rfl ?_
    exact tm_retIH (wf := wX ad dA tt) hRet dX4_tells_57
  · skip
    refine tm_aload_n X 0 dX4_tells_12 rfl rfl ?_
    refine tm_getR X (frX_70_0 ad dA tt h2) in_X4 rfl (Nat.le_of_ble_eq_true rfl) q213 rfl dX4_tells_13 ?_
    refine tm_iload X 4 dX4_tells_16 rfl ?_
    refine tm_iaload X (arX_71 ad dA tt) dX4_tells_18 ?_
    refine tm_iload_n X 1 dX4_tells_19 rfl rfl ?_
    refine tm_let (fun k => ∀ (h3 : Hp), TM G (r, h') (k h3) (wX ad dA tt h3) 0 0 50 [(0, .ref (ad 70)), (1, .int x1), (2, .int x2), (3, .ref (ad 30)), (4, .int x4_1)] []) ?_ (fun k50 hk50 => ?_)
    · intro h3
      refine tm_iinc (v := (1 : Int32)) X 4 [(4, .int (x4_1 + (1 : Int32))), (0, .ref (ad 70)), (1, .int x1), (2, .int x2), (3, .ref (ad 30))] dX4_tells_50 rfl (by decide) (Nat.le_of_ble_eq_true rfl) rfl ?_
      refine tm_goto X 3 dX4_tells_53 rfl ?_
      refine tm_lv X [1, 2, 3, 4, 0] rfl ?_
      exact hk3 (x4_1 + (1 : Int32)) h3
    · skip
      refine tm_ic_ne X 50 dX4_tells_20 rfl ?_ ?_
      · skip
        exact hk50 h2
      · skip
        refine tm_aload_n X 0 dX4_tells_23 rfl rfl ?_
        refine tm_getR X (frX_70_2 ad dA tt h2) in_X4 rfl (Nat.le_of_ble_eq_true rfl) q217 rfl dX4_tells_24 ?_
        refine tm_iload X 4 dX4_tells_27 rfl ?_
        refine tm_aaldq (q0 := 34) (t0 := 5) X rfl rfl dX4_tells_29 ?_
        refine tm_nmQ (fun z4 => ?_)
        refine tm_aload_n X 3 dX4_tells_30 rfl rfl ?_
        refine tm_on ?_
        rintro a5 rfl
        refine tm_cl2 (fun r6 h7 e8 => ?_)
        refine tm_holds (rest := []) X hE q1097 e8 ⟨by omega, by omega⟩ (Nat.le_of_ble_eq_true rfl) dX4_tells_31 ⟨Nat.le_of_ble_eq_true rfl, Nat.le_of_ble_eq_true rfl⟩ ?_
        refine tm_iconst X (1 : Int32) dX4_tells_34 (by decide) ?_
        refine tm_ic_ne X 50 dX4_tells_35 rfl ?_ ?_
        · skip
          exact hk50 h7
        · skip
          refine tm_aload_n X 0 dX4_tells_38 rfl rfl ?_
          refine tm_getR X (frX_70_1 ad dA tt h7) in_X4 rfl (Nat.le_of_ble_eq_true rfl) q215 rfl dX4_tells_39 ?_
          refine tm_iload X 4 dX4_tells_42 rfl ?_
          refine tm_aaldq (q0 := 33) (t0 := 4) X rfl rfl dX4_tells_44 ?_
          refine tm_nmQ (fun z9 => ?_)
          refine tm_aload_n X 3 dX4_tells_45 rfl rfl ?_
          refine tm_on ?_
          rintro a10 rfl
          refine tm_cl3 (fun _ _ _ hn11 => ?_)
          obtain ⟨q12, hq13⟩ := wX_node (ad := ad) (dA := dA) h7 (ndRow_s hn11)
          refine tm_cl2 (fun r14 h15 e16 => ?_)
          refine tm_callUi (As := [.ref (ad 30)]) (rest := []) X (ctX7_told F fr lo l D ad dA tt hF a10 h7 r14 h15 e16) rfl (lw_U q1131 q1133 q1136 q1132 q130 q1137) cyX7_told rfl hq13 rfl ⟨by omega, by omega⟩ (Nat.le_of_ble_eq_true rfl) dX4_tells_46 ⟨Nat.le_of_ble_eq_true rfl, Nat.le_of_ble_eq_true rfl⟩ rfl ?_
          exact tm_retIH (wf := wX ad dA tt) hRet dX4_tells_49
