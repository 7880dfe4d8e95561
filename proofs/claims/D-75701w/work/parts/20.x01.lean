set_option maxRecDepth 100000
def mX0_firstMarked (h : Hp)  : Option (Int32) :=
fx FU (fun _ => none) (fun k2 (x1_1 : Int32) =>
ck x1_1 48 (
if (h 2 x1_1.toNatClampNeg) = 0 then (
k2 (x1_1 + (1 : Int32))) else (
some x1_1))) (0 : Int32)
theorem cyX0_firstMarked : Callee yX0_firstMarked 0 := by unfold Callee; decide +kernel
set_option maxHeartbeats 4000000 in
theorem ctX0_firstMarked (l : Launch) (D : va_G) (ad : Nat → Nat) (dA : Nat → ClassId) (tt : (Nat → Option Nat) × (Nat → Option Nat) × va_W) (h : Hp)  (r : Int32) (hm : mX0_firstMarked h = some r) : CT l yX0_firstMarked cX0_firstMarked 2 (some .int) D dA 0 0 0 0 (wX ad dA tt h) [.ref (ad 100)] (some (.int r)) (wX ad dA tt h) := by
  refine ct_open (by decide) (Nat.le_of_ble_eq_true rfl) ?_
  intro G X hI hZ hV hR
  have hRet := hI rfl r rfl
  refine (show TM G r (mX0_firstMarked h) (wX ad dA tt h) 0 0 0 [(0, .ref (ad 100))] [] from ?_) hm
  clear hm hI hZ hV hR
  unfold mX0_firstMarked
  refine tm_iconst X (0 : Int32) dX0_firstMarked_0 (by decide) ?_
  refine tm_istore_n X [(1, .int (0 : Int32)), (0, .ref (ad 100))] dX0_firstMarked_1 rfl (Nat.le_of_ble_eq_true rfl) rfl ?_
  refine tm_lv X [1, 0] rfl ?_
  refine fx_P (fun (k : Int32 → Option (Int32)) => ∀ (x1_1 : Int32), TM G r (k x1_1) (wX ad dA tt h) 0 0 2 [(0, .ref (ad 100)), (1, .int x1_1)] []) (fun _ => tm_none) (fun k2 hk2 x1_1 => ?_) FU (0 : Int32)
  refine tm_aload_n X 0 dX0_firstMarked_2 rfl rfl ?_
  refine tm_getR X (frX_100_2 ad dA tt h) in_X0 rfl (Nat.le_of_ble_eq_true rfl) q237 rfl dX0_firstMarked_3 ?_
  refine tm_iload_n X 1 dX0_firstMarked_6 rfl rfl ?_
  refine tm_baloadZ X (arX_2 ad dA tt) dX0_firstMarked_7 ?_
  refine tm_if_ne X 17 dX0_firstMarked_8 rfl ?_ ?_
  · skip
    refine tm_iload_n X 1 dX0_firstMarked_17 rfl rfl ?_
    exact tm_retI hRet dX0_firstMarked_18
  · skip
    refine tm_iinc (v := (1 : Int32)) X 1 [(1, .int (x1_1 + (1 : Int32))), (0, .ref (ad 100))] dX0_firstMarked_11 rfl (by decide) (Nat.le_of_ble_eq_true rfl) rfl ?_
    refine tm_goto X 2 dX0_firstMarked_14 rfl ?_
    refine tm_lv X [1, 0] rfl ?_
    exact hk2 (x1_1 + (1 : Int32))
def mX0_faced (h : Hp) (x1 : Int32) : Option (Int32) :=
fx FU (fun _ _ => none) (fun k4 (x2_1 : Int32) (x3_2 : Int32) =>
if (48 : Int32) ≤ x3_2 then (
some x2_1) else (
cl1 (mX0_facing x3_2 x1) (fun r3 =>
nm (fun (s5 : Int32) =>
nm ((x2_1 + s5)) (fun v6 =>
k4 v6 (x3_2 + (1 : Int32)))) (fun k25 =>
if r3 = (-1 : Int32) then (
k25 (0 : Int32)) else (
k25 (1 : Int32)))))) (0 : Int32) (0 : Int32)
theorem cyX0_faced : Callee yX0_faced 1 := by unfold Callee; decide +kernel
set_option maxHeartbeats 4000000 in
theorem ctX0_faced (l : Launch) (D : va_G) (ad : Nat → Nat) (dA : Nat → ClassId) (tt : (Nat → Option Nat) × (Nat → Option Nat) × va_W) (h : Hp) (x1 : Int32) (r : Int32) (hm : mX0_faced h x1 = some r) : CT l yX0_faced cX0_faced 4 (some .int) D dA 3 63 0 0 (wX ad dA tt h) [.ref (ad 100), .int x1] (some (.int r)) (wX ad dA tt h) := by
  refine ct_open (by decide) (Nat.le_of_ble_eq_true rfl) ?_
  intro G X hI hZ hV hR
  have hRet := hI rfl r rfl
  refine (show TM G r (mX0_faced h x1) (wX ad dA tt h) 0 0 0 [(0, .ref (ad 100)), (1, .int x1)] [] from ?_) hm
  clear hm hI hZ hV hR
  unfold mX0_faced
  refine tm_iconst X (0 : Int32) dX0_faced_0 (by decide) ?_
  refine tm_istore_n X [(2, .int (0 : Int32)), (0, .ref (ad 100)), (1, .int x1)] dX0_faced_1 rfl (Nat.le_of_ble_eq_true rfl) rfl ?_
  refine tm_iconst X (0 : Int32) dX0_faced_2 (by decide) ?_
  refine tm_istore_n X [(3, .int (0 : Int32)), (2, .int (0 : Int32)), (0, .ref (ad 100)), (1, .int x1)] dX0_faced_3 rfl (Nat.le_of_ble_eq_true rfl) rfl ?_
  refine tm_lv X [3, 1, 0] rfl ?_
  refine fx_P (fun (k : Int32 → Int32 → Option (Int32)) => ∀ (x2_1 : Int32) (x3_2 : Int32), TM G r (k x2_1 x3_2) (wX ad dA tt h) 0 0 4 [(1, .int x1), (2, .int x2_1), (3, .int x3_2)] []) (fun _ _ => tm_none) (fun k4 hk4 x2_1 x3_2 => ?_) FU (0 : Int32) (0 : Int32)
  refine tm_iload_n X 2 dX0_faced_4 rfl rfl ?_
  refine tm_bipush X (48 : Int32) dX0_faced_5 (by decide) ?_
  refine tm_ic_ge X 33 dX0_faced_7 rfl ?_ ?_
  · skip
    refine tm_iload_n X 1 dX0_faced_33 rfl rfl ?_
    exact tm_retI hRet dX0_faced_34
  · skip
    refine tm_iload_n X 1 dX0_faced_10 rfl rfl ?_
    refine tm_iload_n X 2 dX0_faced_11 rfl rfl ?_
    refine tm_iload_n X 0 dX0_faced_12 rfl rfl ?_
    refine tm_cl1 (fun r3 e4 => ?_)
    refine tm_callSi (As := [.int x3_2, .int x1]) (rest := [.int x2_1]) X (ctX0_facing l D dA x3_2 x1 r3 e4) (lw_S q842 q823 q117 q824) cyX0_facing rfl ⟨(Nat.le_of_ble_eq_true rfl), (Nat.le_of_ble_eq_true rfl)⟩ (Nat.le_of_ble_eq_true rfl) dX0_faced_13 ⟨Nat.le_of_ble_eq_true rfl, Nat.le_of_ble_eq_true rfl⟩ rfl ?_
    refine tm_iconst X (-1 : Int32) dX0_faced_16 (by decide) ?_
    refine tm_let (fun k => ∀ (s5 : Int32), TM G r (k s5) (wX ad dA tt h) 0 0 25 [(1, .int x1), (3, .int x3_2)] [.int s5, .int x2_1]) ?_ (fun k25 hk25 => ?_)
    · intro s5
      refine tm_iadd X dX0_faced_25 ?_
      refine tm_nmI (fun v6 => ?_)
      refine tm_istore_n X [(2, .int v6), (1, .int x1), (3, .int x3_2)] dX0_faced_26 rfl (Nat.le_of_ble_eq_true rfl) rfl ?_
      refine tm_iinc (v := (1 : Int32)) X 2 [(3, .int (x3_2 + (1 : Int32))), (2, .int v6), (1, .int x1)] dX0_faced_27 rfl (by decide) (Nat.le_of_ble_eq_true rfl) rfl ?_
      refine tm_goto X 4 dX0_faced_30 rfl ?_
      refine tm_lv X [2, 1, 0] rfl ?_
      exact hk4 v6 (x3_2 + (1 : Int32))
    · skip
      refine tm_ic_ne X 24 dX0_faced_17 rfl ?_ ?_
      · skip
        refine tm_iconst X (1 : Int32) dX0_faced_24 (by decide) ?_
        refine tm_lv X [0, 2] rfl ?_
        exact hk25 (1 : Int32)
      · skip
        refine tm_iconst X (0 : Int32) dX0_faced_20 (by decide) ?_
        refine tm_goto X 25 dX0_faced_21 rfl ?_
        refine tm_lv X [0, 2] rfl ?_
        exact hk25 (0 : Int32)
def mX0_widest (h : Hp) (x1 : Int32) : Option (Int32) :=
fx FU (fun _ _ => none) (fun k5 (x2_1 : Int32) (x3_2 : Int32) =>
if (48 : Int32) ≤ x3_2 then (
cl1 (mX3_opening 40 h x1) (fun r4 =>
some (r4 - x2_1))) else (
cl1 (mX0_facing x3_2 x1) (fun r5 =>
nm (fun (s7 : Int32) =>
k5 s7 (x3_2 + (1 : Int32))) (fun k37 =>
if r5 = (-1 : Int32) then (
k37 x2_1) else (
cl1 (mX3_sumAt 40 h x3_2 x1) (fun r9 =>
k37 (jmin x2_1 r9))))))) (268435456 : Int32) (0 : Int32)
theorem cyX0_widest : Callee yX0_widest 1 := by unfold Callee; decide +kernel
set_option maxHeartbeats 4000000 in
theorem ctX0_widest (l : Launch) (D : va_G) (ad : Nat → Nat) (dA : Nat → ClassId) (tt : (Nat → Option Nat) × (Nat → Option Nat) × va_W) (h : Hp) (x1 : Int32) (r : Int32) (hm : mX0_widest h x1 = some r) : CT l yX0_widest cX0_widest 4 (some .int) D dA 5 108 0 0 (wX ad dA tt h) [.ref (ad 100), .int x1] (some (.int r)) (wX ad dA tt h) := by
  refine ct_open (by decide) (Nat.le_of_ble_eq_true rfl) ?_
  intro G X hI hZ hV hR
  have hRet := hI rfl r rfl
  refine (show TM G r (mX0_widest h x1) (wX ad dA tt h) 0 0 0 [(0, .ref (ad 100)), (1, .int x1)] [] from ?_) hm
  clear hm hI hZ hV hR
  unfold mX0_widest
  refine tm_ldc X (268435456 : Int32) q847 dX0_widest_0 ?_
  refine tm_istore_n X [(2, .int (268435456 : Int32)), (0, .ref (ad 100)), (1, .int x1)] dX0_widest_2 rfl (Nat.le_of_ble_eq_true rfl) rfl ?_
  refine tm_iconst X (0 : Int32) dX0_widest_3 (by decide) ?_
  refine tm_istore_n X [(3, .int (0 : Int32)), (2, .int (268435456 : Int32)), (0, .ref (ad 100)), (1, .int x1)] dX0_widest_4 rfl (Nat.le_of_ble_eq_true rfl) rfl ?_
  refine tm_lv X [2, 3, 1, 0] rfl ?_
  refine fx_P (fun (k : Int32 → Int32 → Option (Int32)) => ∀ (x2_1 : Int32) (x3_2 : Int32), TM G r (k x2_1 x3_2) (wX ad dA tt h) 0 0 5 [(0, .ref (ad 100)), (1, .int x1), (2, .int x2_1), (3, .int x3_2)] []) (fun _ _ => tm_none) (fun k5 hk5 x2_1 x3_2 => ?_) FU (268435456 : Int32) (0 : Int32)
  refine tm_iload_n X 3 dX0_widest_5 rfl rfl ?_
  refine tm_bipush X (48 : Int32) dX0_widest_6 (by decide) ?_
  refine tm_ic_ge X 44 dX0_widest_8 rfl ?_ ?_
  · skip
    refine tm_aload_n X 0 dX0_widest_44 rfl rfl ?_
    refine tm_getR X (frX_100_5 ad dA tt h) in_X0 rfl (Nat.le_of_ble_eq_true rfl) q242 rfl dX0_widest_45 ?_
    refine tm_iload_n X 1 dX0_widest_48 rfl rfl ?_
    refine tm_cl1 (fun r4 e3 => ?_)
    refine tm_callVi (As := [.int x1]) (rest := []) (q0 := 3) X (ctX3_opening_40 l D ad dA tt h x1 r4 e3) (lw_V q833 q819 q820 q120 q821) cyX3_opening rfl rfl rfl ⟨(Nat.le_of_ble_eq_true rfl), (Nat.le_of_ble_eq_true rfl)⟩ (Nat.le_of_ble_eq_true rfl) dX0_widest_49 ⟨Nat.le_of_ble_eq_true rfl, Nat.le_of_ble_eq_true rfl⟩ rfl ?_
    refine tm_iload_n X 2 dX0_widest_52 rfl rfl ?_
    refine tm_isub X dX0_widest_53 ?_
    exact tm_retI hRet dX0_widest_54
  · skip
    refine tm_iload_n X 3 dX0_widest_11 rfl rfl ?_
    refine tm_iload_n X 1 dX0_widest_12 rfl rfl ?_
    refine tm_cl1 (fun r5 e6 => ?_)
    refine tm_callSi (As := [.int x3_2, .int x1]) (rest := []) X (ctX0_facing l D dA x3_2 x1 r5 e6) (lw_S q842 q823 q117 q824) cyX0_facing rfl ⟨(Nat.le_of_ble_eq_true rfl), (Nat.le_of_ble_eq_true rfl)⟩ (Nat.le_of_ble_eq_true rfl) dX0_widest_13 ⟨Nat.le_of_ble_eq_true rfl, Nat.le_of_ble_eq_true rfl⟩ rfl ?_
    refine tm_iconst X (-1 : Int32) dX0_widest_16 (by decide) ?_
    refine tm_let (fun k => ∀ (s7 : Int32), TM G r (k s7) (wX ad dA tt h) 0 0 37 [(0, .ref (ad 100)), (1, .int x1), (3, .int x3_2)] [.int s7]) ?_ (fun k37 hk37 => ?_)
    · intro s7
      refine tm_istore_n X [(2, .int s7), (0, .ref (ad 100)), (1, .int x1), (3, .int x3_2)] dX0_widest_37 rfl (Nat.le_of_ble_eq_true rfl) rfl ?_
      refine tm_iinc (v := (1 : Int32)) X 3 [(3, .int (x3_2 + (1 : Int32))), (2, .int s7), (0, .ref (ad 100)), (1, .int x1)] dX0_widest_38 rfl (by decide) (Nat.le_of_ble_eq_true rfl) rfl ?_
      refine tm_goto X 5 dX0_widest_41 rfl ?_
      refine tm_lv X [2, 3, 1, 0] rfl ?_
      exact hk5 s7 (x3_2 + (1 : Int32))
    · skip
      refine tm_ic_ne X 24 dX0_widest_17 rfl ?_ ?_
      · skip
        refine tm_iload_n X 2 dX0_widest_24 rfl rfl ?_
        refine tm_aload_n X 0 dX0_widest_25 rfl rfl ?_
        refine tm_getR X (frX_100_5 ad dA tt h) in_X0 rfl (Nat.le_of_ble_eq_true rfl) q242 rfl dX0_widest_26 ?_
        refine tm_iload_n X 3 dX0_widest_29 rfl rfl ?_
        refine tm_iload_n X 1 dX0_widest_30 rfl rfl ?_
        refine tm_cl1 (fun r9 e8 => ?_)
        refine tm_callVi (As := [.int x3_2, .int x1]) (rest := [.int x2_1]) (q0 := 3) X (ctX3_sumAt_40 l D ad dA tt h x3_2 x1 r9 e8) (lw_V q848 q829 q830 q120 q831) cyX3_sumAt rfl rfl rfl ⟨(Nat.le_of_ble_eq_true rfl), (Nat.le_of_ble_eq_true rfl)⟩ (Nat.le_of_ble_eq_true rfl) dX0_widest_31 ⟨Nat.le_of_ble_eq_true rfl, Nat.le_of_ble_eq_true rfl⟩ rfl ?_
        refine tm_mmin X q849 (Nat.le_of_ble_eq_true rfl) (Nat.le_of_ble_eq_true rfl) ⟨Nat.le_of_ble_eq_true rfl, Nat.le_of_ble_eq_true rfl⟩ dX0_widest_34 ?_
        refine tm_lv X [0, 1, 3] rfl ?_
        exact hk37 (jmin x2_1 r9)
      · skip
        refine tm_iload_n X 2 dX0_widest_20 rfl rfl ?_
        refine tm_goto X 37 dX0_widest_21 rfl ?_
        refine tm_lv X [0, 1, 3] rfl ?_
        exact hk37 x2_1
def mX0_glide (h : Hp) (x1 : Int32) (x2 : Int32) (x3 : Int32) (x4 : Int32) : Option (Int32 × Hp) :=
cl1 (mX0_isGlide x1 x2) (fun r1 =>
nm (
some ((-1 : Int32), h)) (fun k18 =>
if r1 = 0 then (
k18) else (
cl1 (mX0_within x3 (0 : Int32) (50 : Int32)) (fun r3 =>
if r3 = 0 then (
k18) else (
cl1 (mX0_glideAt x1 x2) (fun r5 =>
cl2 (mX3_marks 40 h r5 x3) (fun r8 h9 =>
if x4 = (0 : Int32) then (
cl1 (mX3_opening 40 h9 r5) (fun r11 =>
some (r11, h9))) else (
if x4 = (1 : Int32) then (
some (r8, h9)) else (
if x4 = (2 : Int32) then (
cl1 (mX0_firstMarked h9) (fun r15 =>
some (r15, h9))) else (
if x4 = (3 : Int32) then (
cl1 (mX0_faced h9 r5) (fun r18 =>
some (r18, h9))) else (
if x4 = (4 : Int32) then (
cl1 (mX0_widest h9 r5) (fun r21 =>
some (r21, h9))) else (
some ((-1 : Int32), h9)))))))))))))
theorem cyX0_glide : Callee yX0_glide 4 := by unfold Callee; decide +kernel
set_option maxHeartbeats 4000000 in
theorem ctX0_glide (l : Launch) (D : va_G) (ad : Nat → Nat) (dA : Nat → ClassId) (tt : (Nat → Option Nat) × (Nat → Option Nat) × va_W) (h : Hp) (x1 : Int32) (x2 : Int32) (x3 : Int32) (x4 : Int32) (r : Int32) (h' : Hp) (hm : mX0_glide h x1 x2 x3 x4 = some (r, h')) : CT l yX0_glide cX0_glide 7 (some .int) D dA 6 133 0 0 (wX ad dA tt h) [.ref (ad 100), .int x1, .int x2, .int x3, .int x4] (some (.int r)) (wX ad dA tt h') := by
  refine ct_open (by decide) (Nat.le_of_ble_eq_true rfl) ?_
  intro G X hI hZ hV hR
  have hRet := hI rfl r rfl
  refine (show TM G (r, h') (mX0_glide h x1 x2 x3 x4) (wX ad dA tt h) 0 0 0 [(0, .ref (ad 100)), (1, .int x1), (2, .int x2), (3, .int x3), (4, .int x4)] [] from ?_) hm
  clear hm hI hZ hV hR
  unfold mX0_glide
  refine tm_iload_n X 1 dX0_glide_0 rfl rfl ?_
  refine tm_iload_n X 2 dX0_glide_1 rfl rfl ?_
  refine tm_cl1 (fun r1 e2 => ?_)
  refine tm_callSi (As := [.int x1, .int x2]) (rest := []) X (ctX0_isGlide l D dA x1 x2 r1 e2) (lw_S q804 q805 q117 q806) cyX0_isGlide rfl ⟨(Nat.le_of_ble_eq_true rfl), (Nat.le_of_ble_eq_true rfl)⟩ (Nat.le_of_ble_eq_true rfl) dX0_glide_2 ⟨Nat.le_of_ble_eq_true rfl, Nat.le_of_ble_eq_true rfl⟩ rfl ?_
  refine tm_let (fun k => TM G (r, h') k (wX ad dA tt h) 0 0 18 [] []) ?_ (fun k18 hk18 => ?_)
  · skip
    refine tm_iconst X (-1 : Int32) dX0_glide_18 (by decide) ?_
    exact tm_retIH (wf := wX ad dA tt) hRet dX0_glide_19
  · skip
    refine tm_if_eq X 18 dX0_glide_5 rfl ?_ ?_
    · skip
      refine tm_lv X [] rfl ?_
      exact hk18
    · skip
      refine tm_iload_n X 3 dX0_glide_8 rfl rfl ?_
      refine tm_iconst X (0 : Int32) dX0_glide_9 (by decide) ?_
      refine tm_bipush X (50 : Int32) dX0_glide_10 (by decide) ?_
      refine tm_cl1 (fun r3 e4 => ?_)
      refine tm_callSi (As := [.int x3, .int (0 : Int32), .int (50 : Int32)]) (rest := []) X (ctX0_within l D dA x3 (0 : Int32) (50 : Int32) r3 e4) (lw_S q317 q318 q117 q319) cyX0_within rfl ⟨(Nat.le_of_ble_eq_true rfl), (Nat.le_of_ble_eq_true rfl)⟩ (Nat.le_of_ble_eq_true rfl) dX0_glide_12 ⟨Nat.le_of_ble_eq_true rfl, Nat.le_of_ble_eq_true rfl⟩ rfl ?_
      refine tm_if_ne X 20 dX0_glide_15 rfl ?_ ?_
      · skip
        refine tm_iload_n X 1 dX0_glide_20 rfl rfl ?_
        refine tm_iload_n X 2 dX0_glide_21 rfl rfl ?_
        refine tm_cl1 (fun r5 e6 => ?_)
        refine tm_callSi (As := [.int x1, .int x2]) (rest := []) X (ctX0_glideAt l D dA x1 x2 r5 e6) (lw_S q807 q808 q117 q809) cyX0_glideAt rfl ⟨(Nat.le_of_ble_eq_true rfl), (Nat.le_of_ble_eq_true rfl)⟩ (Nat.le_of_ble_eq_true rfl) dX0_glide_22 ⟨Nat.le_of_ble_eq_true rfl, Nat.le_of_ble_eq_true rfl⟩ rfl ?_
        refine tm_istore X [(5, .int r5), (0, .ref (ad 100)), (1, .int x1), (2, .int x2), (3, .int x3), (4, .int x4)] dX0_glide_25 (Nat.le_of_ble_eq_true rfl) rfl ?_
        refine tm_aload_n X 1 dX0_glide_27 rfl rfl ?_
        refine tm_getR X (frX_100_5 ad dA tt h) in_X0 rfl (Nat.le_of_ble_eq_true rfl) q242 rfl dX0_glide_28 ?_
        refine tm_iload X 0 dX0_glide_31 rfl ?_
        refine tm_iload_n X 4 dX0_glide_33 rfl rfl ?_
        refine tm_cl2 (fun r8 h9 e7 => ?_)
        refine tm_callVi (As := [.int r5, .int x3]) (rest := []) (q0 := 3) X (ctX3_marks_40 l D ad dA tt h r5 x3 r8 h9 e7) (lw_V q814 q815 q816 q120 q817) cyX3_marks rfl rfl rfl ⟨(Nat.le_of_ble_eq_true rfl), (Nat.le_of_ble_eq_true rfl)⟩ (Nat.le_of_ble_eq_true rfl) dX0_glide_34 ⟨Nat.le_of_ble_eq_true rfl, Nat.le_of_ble_eq_true rfl⟩ rfl ?_
        refine tm_istore X [(6, .int r8), (5, .int r5), (0, .ref (ad 100)), (1, .int x1), (2, .int x2), (3, .int x3), (4, .int x4)] dX0_glide_37 (Nat.le_of_ble_eq_true rfl) rfl ?_
        refine tm_iload X 6 dX0_glide_39 rfl ?_
        refine tm_sw (j := 0) (0 : Int32) 76 X dX0_glide_41 (by decide) (by decide) rfl rfl ?_ (fun hs12 => ?_)
        · skip
          refine tm_aload_n X 2 dX0_glide_76 rfl rfl ?_
          refine tm_getR X (frX_100_5 ad dA tt h9) in_X0 rfl (Nat.le_of_ble_eq_true rfl) q242 rfl dX0_glide_77 ?_
          refine tm_iload X 1 dX0_glide_80 rfl ?_
          refine tm_cl1 (fun r11 e10 => ?_)
          refine tm_callVi (As := [.int r5]) (rest := []) (q0 := 3) X (ctX3_opening_40 l D ad dA tt h9 r5 r11 e10) (lw_V q833 q819 q820 q120 q821) cyX3_opening rfl rfl rfl ⟨(Nat.le_of_ble_eq_true rfl), (Nat.le_of_ble_eq_true rfl)⟩ (Nat.le_of_ble_eq_true rfl) dX0_glide_82 ⟨Nat.le_of_ble_eq_true rfl, Nat.le_of_ble_eq_true rfl⟩ rfl ?_
          exact tm_retIH (wf := wX ad dA tt) hRet dX0_glide_85
        refine tm_sw (j := 1) (1 : Int32) 86 X dX0_glide_41 (by decide) (by decide) rfl rfl ?_ (fun hs13 => ?_)
        · skip
          refine tm_iload X 0 dX0_glide_86 rfl ?_
          exact tm_retIH (wf := wX ad dA tt) hRet dX0_glide_88
        refine tm_sw (j := 2) (2 : Int32) 89 X dX0_glide_41 (by decide) (by decide) rfl rfl ?_ (fun hs16 => ?_)
        · skip
          refine tm_aload_n X 2 dX0_glide_89 rfl rfl ?_
          refine tm_cl1 (fun r15 e14 => ?_)
          refine tm_callVi (As := []) (rest := []) (q0 := 0) X (ctX0_firstMarked l D ad dA tt h9 r15 e14) (lw_V q834 q836 qs20 q117 q837) cyX0_firstMarked rfl rfl rfl ⟨(Nat.le_of_ble_eq_true rfl), (Nat.le_of_ble_eq_true rfl)⟩ (Nat.le_of_ble_eq_true rfl) dX0_glide_90 ⟨Nat.le_of_ble_eq_true rfl, Nat.le_of_ble_eq_true rfl⟩ rfl ?_
          exact tm_retIH (wf := wX ad dA tt) hRet dX0_glide_93
        refine tm_sw (j := 3) (3 : Int32) 94 X dX0_glide_41 (by decide) (by decide) rfl rfl ?_ (fun hs19 => ?_)
        · skip
          refine tm_aload_n X 2 dX0_glide_94 rfl rfl ?_
          refine tm_iload X 1 dX0_glide_95 rfl ?_
          refine tm_cl1 (fun r18 e17 => ?_)
          refine tm_callVi (As := [.int r5]) (rest := []) (q0 := 0) X (ctX0_faced l D ad dA tt h9 r5 r18 e17) (lw_V q838 q840 qs21 q117 q841) cyX0_faced rfl rfl rfl ⟨(Nat.le_of_ble_eq_true rfl), (Nat.le_of_ble_eq_true rfl)⟩ (Nat.le_of_ble_eq_true rfl) dX0_glide_97 ⟨Nat.le_of_ble_eq_true rfl, Nat.le_of_ble_eq_true rfl⟩ rfl ?_
          exact tm_retIH (wf := wX ad dA tt) hRet dX0_glide_100
        refine tm_sw (j := 4) (4 : Int32) 101 X dX0_glide_41 (by decide) (by decide) rfl rfl ?_ (fun hs22 => ?_)
        · skip
          refine tm_aload_n X 2 dX0_glide_101 rfl rfl ?_
          refine tm_iload X 1 dX0_glide_102 rfl ?_
          refine tm_cl1 (fun r21 e20 => ?_)
          refine tm_callVi (As := [.int r5]) (rest := []) (q0 := 0) X (ctX0_widest l D ad dA tt h9 r5 r21 e20) (lw_V q843 q845 qs22 q117 q846) cyX0_widest rfl rfl rfl ⟨(Nat.le_of_ble_eq_true rfl), (Nat.le_of_ble_eq_true rfl)⟩ (Nat.le_of_ble_eq_true rfl) dX0_glide_104 ⟨Nat.le_of_ble_eq_true rfl, Nat.le_of_ble_eq_true rfl⟩ rfl ?_
          exact tm_retIH (wf := wX ad dA tt) hRet dX0_glide_107
        refine tm_swd 108 X dX0_glide_41 (by have := ne_toInt hs12 (n := 0) (by decide); have := ne_toInt hs13 (n := 1) (by decide); have := ne_toInt hs16 (n := 2) (by decide); have := ne_toInt hs19 (n := 3) (by decide); have := ne_toInt hs22 (n := 4) (by decide); omega) rfl ?_
        refine tm_iconst X (-1 : Int32) dX0_glide_108 (by decide) ?_
        exact tm_retIH (wf := wX ad dA tt) hRet dX0_glide_109
      · skip
        refine tm_lv X [] rfl ?_
        exact hk18
def mX0_best (h : Hp) (x1 : Int32) : Option (Int32 × Hp) :=
cl1 (mX0_in x1 (4 : Int32)) (fun r1 =>
if r1 = 0 then (
some ((-1 : Int32), h)) else (
fx FU (fun _ _ _ _ => none) (fun k17 (x2_3 : Int32) (x3_4 : Int32) (x4_5 : Int32) (h6 : Hp) =>
if (63 : Int32) ≤ x4_5 then (
nm (fun (s7 : Int32) (h8 : Hp) =>
some (s7, h8)) (fun k128 =>
if x1 = 0 then (
k128 x2_3 h6) else (
if x1 = (1 : Int32) then (
k128 x3_4 h6) else (
if x1 = (2 : Int32) then (
cl1 (mX3_opening 40 h6 x2_3) (fun r13 =>
k128 r13 h6)) else (
cl2 (mX3_marks 40 h6 x3_4 (0 : Int32)) (fun r10 h11 =>
k128 r10 h11)))))) else (
cl1 (mX3_opening 40 h6 x4_5) (fun r15 =>
cl1 (mX3_opening 40 h6 x2_3) (fun r17 =>
nm (fun (s18 : Int32) =>
cl2 (mX3_marks 40 h6 x4_5 (0 : Int32)) (fun r20 h21 =>
cl2 (mX3_marks 40 h21 x3_4 (0 : Int32)) (fun r23 h24 =>
nm (fun (s25 : Int32) =>
k17 s18 s25 (x4_5 + (1 : Int32)) h24) (fun k79 =>
if r20 ≤ r23 then (
k79 x3_4) else (
k79 x4_5))))) (fun k50 =>
if r17 ≤ r15 then (
k50 x2_3) else (
k50 x4_5)))))) (0 : Int32) (0 : Int32) (1 : Int32) h))
theorem cyX0_best : Callee yX0_best 1 := by unfold Callee; decide +kernel
set_option maxHeartbeats 4000000 in
theorem ctX0_best (l : Launch) (D : va_G) (ad : Nat → Nat) (dA : Nat → ClassId) (tt : (Nat → Option Nat) × (Nat → Option Nat) × va_W) (h : Hp) (x1 : Int32) (r : Int32) (h' : Hp) (hm : mX0_best h x1 = some (r, h')) : CT l yX0_best cX0_best 5 (some .int) D dA 6 133 0 0 (wX ad dA tt h) [.ref (ad 100), .int x1] (some (.int r)) (wX ad dA tt h') := by
  refine ct_open (by decide) (Nat.le_of_ble_eq_true rfl) ?_
  intro G X hI hZ hV hR
  have hRet := hI rfl r rfl
  refine (show TM G (r, h') (mX0_best h x1) (wX ad dA tt h) 0 0 0 [(0, .ref (ad 100)), (1, .int x1)] [] from ?_) hm
  clear hm hI hZ hV hR
  unfold mX0_best
  refine tm_iload_n X 1 dX0_best_0 rfl rfl ?_
  refine tm_iconst X (4 : Int32) dX0_best_1 (by decide) ?_
  refine tm_cl1 (fun r1 e2 => ?_)
  refine tm_callSi (As := [.int x1, .int (4 : Int32)]) (rest := []) X (ctX0_in l D dA x1 (4 : Int32) r1 e2) (lw_S q311 q312 q117 q313) cyX0_in rfl ⟨(Nat.le_of_ble_eq_true rfl), (Nat.le_of_ble_eq_true rfl)⟩ (Nat.le_of_ble_eq_true rfl) dX0_best_2 ⟨Nat.le_of_ble_eq_true rfl, Nat.le_of_ble_eq_true rfl⟩ rfl ?_
  refine tm_if_ne X 10 dX0_best_5 rfl ?_ ?_
  · skip
    refine tm_iconst X (0 : Int32) dX0_best_10 (by decide) ?_
    refine tm_istore_n X [(2, .int (0 : Int32)), (0, .ref (ad 100)), (1, .int x1)] dX0_best_11 rfl (Nat.le_of_ble_eq_true rfl) rfl ?_
    refine tm_iconst X (0 : Int32) dX0_best_12 (by decide) ?_
    refine tm_istore_n X [(3, .int (0 : Int32)), (2, .int (0 : Int32)), (0, .ref (ad 100)), (1, .int x1)] dX0_best_13 rfl (Nat.le_of_ble_eq_true rfl) rfl ?_
    refine tm_iconst X (1 : Int32) dX0_best_14 (by decide) ?_
    refine tm_istore X [(4, .int (1 : Int32)), (3, .int (0 : Int32)), (2, .int (0 : Int32)), (0, .ref (ad 100)), (1, .int x1)] dX0_best_15 (Nat.le_of_ble_eq_true rfl) rfl ?_
    refine tm_lv X [3, 4, 2, 1, 0] rfl ?_
    refine fx_P (fun (k : Int32 → Int32 → Int32 → Hp → Option (Int32 × Hp)) => ∀ (x2_3 : Int32) (x3_4 : Int32) (x4_5 : Int32) (h6 : Hp), TM G (r, h') (k x2_3 x3_4 x4_5 h6) (wX ad dA tt h6) 0 0 17 [(0, .ref (ad 100)), (1, .int x1), (2, .int x2_3), (3, .int x3_4), (4, .int x4_5)] []) (fun _ _ _ _ => tm_none) (fun k17 hk17 x2_3 x3_4 x4_5 h6 => ?_) FU (0 : Int32) (0 : Int32) (1 : Int32) h
    refine tm_iload X 4 dX0_best_17 rfl ?_
    refine tm_bipush X (63 : Int32) dX0_best_19 (by decide) ?_
    refine tm_ic_ge X 86 dX0_best_21 rfl ?_ ?_
    · skip
      refine tm_iload_n X 1 dX0_best_86 rfl rfl ?_
      refine tm_let (fun k => ∀ (s7 : Int32) (h8 : Hp), TM G (r, h') (k s7 h8) (wX ad dA tt h8) 0 0 128 [] [.int s7]) ?_ (fun k128 hk128 => ?_)
      · intro s7 h8
        exact tm_retIH (wf := wX ad dA tt) hRet dX0_best_128
      · skip
        refine tm_if_ne X 94 dX0_best_87 rfl ?_ ?_
        · skip
          refine tm_iload_n X 1 dX0_best_94 rfl rfl ?_
          refine tm_iconst X (1 : Int32) dX0_best_95 (by decide) ?_
          refine tm_ic_ne X 103 dX0_best_96 rfl ?_ ?_
          · skip
            refine tm_iload_n X 1 dX0_best_103 rfl rfl ?_
            refine tm_iconst X (2 : Int32) dX0_best_104 (by decide) ?_
            refine tm_ic_ne X 119 dX0_best_105 rfl ?_ ?_
            · skip
              refine tm_aload_n X 0 dX0_best_119 rfl rfl ?_
              refine tm_getR X (frX_100_5 ad dA tt h6) in_X0 rfl (Nat.le_of_ble_eq_true rfl) q242 rfl dX0_best_120 ?_
              refine tm_iload_n X 3 dX0_best_123 rfl rfl ?_
              refine tm_iconst X (0 : Int32) dX0_best_124 (by decide) ?_
              refine tm_cl2 (fun r10 h11 e9 => ?_)
              refine tm_callVi (As := [.int x3_4, .int (0 : Int32)]) (rest := []) (q0 := 3) X (ctX3_marks_40 l D ad dA tt h6 x3_4 (0 : Int32) r10 h11 e9) (lw_V q814 q815 q816 q120 q817) cyX3_marks rfl rfl rfl ⟨(Nat.le_of_ble_eq_true rfl), (Nat.le_of_ble_eq_true rfl)⟩ (Nat.le_of_ble_eq_true rfl) dX0_best_125 ⟨Nat.le_of_ble_eq_true rfl, Nat.le_of_ble_eq_true rfl⟩ rfl ?_
              refine tm_lv X [] rfl ?_
              exact hk128 r10 h11
            · skip
              refine tm_aload_n X 0 dX0_best_108 rfl rfl ?_
              refine tm_getR X (frX_100_5 ad dA tt h6) in_X0 rfl (Nat.le_of_ble_eq_true rfl) q242 rfl dX0_best_109 ?_
              refine tm_iload_n X 2 dX0_best_112 rfl rfl ?_
              refine tm_cl1 (fun r13 e12 => ?_)
              refine tm_callVi (As := [.int x2_3]) (rest := []) (q0 := 3) X (ctX3_opening_40 l D ad dA tt h6 x2_3 r13 e12) (lw_V q833 q819 q820 q120 q821) cyX3_opening rfl rfl rfl ⟨(Nat.le_of_ble_eq_true rfl), (Nat.le_of_ble_eq_true rfl)⟩ (Nat.le_of_ble_eq_true rfl) dX0_best_113 ⟨Nat.le_of_ble_eq_true rfl, Nat.le_of_ble_eq_true rfl⟩ rfl ?_
              refine tm_goto X 128 dX0_best_116 rfl ?_
              refine tm_lv X [] rfl ?_
              exact hk128 r13 h6
          · skip
            refine tm_iload_n X 3 dX0_best_99 rfl rfl ?_
            refine tm_goto X 128 dX0_best_100 rfl ?_
            refine tm_lv X [] rfl ?_
            exact hk128 x3_4 h6
        · skip
          refine tm_iload_n X 2 dX0_best_90 rfl rfl ?_
          refine tm_goto X 128 dX0_best_91 rfl ?_
          refine tm_lv X [] rfl ?_
          exact hk128 x2_3 h6
    · skip
      refine tm_aload_n X 0 dX0_best_24 rfl rfl ?_
      refine tm_getR X (frX_100_5 ad dA tt h6) in_X0 rfl (Nat.le_of_ble_eq_true rfl) q242 rfl dX0_best_25 ?_
      refine tm_iload X 4 dX0_best_28 rfl ?_
      refine tm_cl1 (fun r15 e14 => ?_)
      refine tm_callVi (As := [.int x4_5]) (rest := []) (q0 := 3) X (ctX3_opening_40 l D ad dA tt h6 x4_5 r15 e14) (lw_V q833 q819 q820 q120 q821) cyX3_opening rfl rfl rfl ⟨(Nat.le_of_ble_eq_true rfl), (Nat.le_of_ble_eq_true rfl)⟩ (Nat.le_of_ble_eq_true rfl) dX0_best_30 ⟨Nat.le_of_ble_eq_true rfl, Nat.le_of_ble_eq_true rfl⟩ rfl ?_
      refine tm_aload_n X 0 dX0_best_33 rfl rfl ?_
      refine tm_getR X (frX_100_5 ad dA tt h6) in_X0 rfl (Nat.le_of_ble_eq_true rfl) q242 rfl dX0_best_34 ?_
      refine tm_iload_n X 2 dX0_best_37 rfl rfl ?_
      refine tm_cl1 (fun r17 e16 => ?_)
      refine tm_callVi (As := [.int x2_3]) (rest := [.int r15]) (q0 := 3) X (ctX3_opening_40 l D ad dA tt h6 x2_3 r17 e16) (lw_V q833 q819 q820 q120 q821) cyX3_opening rfl rfl rfl ⟨(Nat.le_of_ble_eq_true rfl), (Nat.le_of_ble_eq_true rfl)⟩ (Nat.le_of_ble_eq_true rfl) dX0_best_38 ⟨Nat.le_of_ble_eq_true rfl, Nat.le_of_ble_eq_true rfl⟩ rfl ?_
      refine tm_let (fun k => ∀ (s18 : Int32), TM G (r, h') (k s18) (wX ad dA tt h6) 0 0 50 [(0, .ref (ad 100)), (1, .int x1), (3, .int x3_4), (4, .int x4_5)] [.int s18]) ?_ (fun k50 hk50 => ?_)
      · intro s18
        refine tm_istore_n X [(2, .int s18), (0, .ref (ad 100)), (1, .int x1), (3, .int x3_4), (4, .int x4_5)] dX0_best_50 rfl (Nat.le_of_ble_eq_true rfl) rfl ?_
        refine tm_aload_n X 1 dX0_best_51 rfl rfl ?_
        refine tm_getR X (frX_100_5 ad dA tt h6) in_X0 rfl (Nat.le_of_ble_eq_true rfl) q242 rfl dX0_best_52 ?_
        refine tm_iload X 4 dX0_best_55 rfl ?_
        refine tm_iconst X (0 : Int32) dX0_best_57 (by decide) ?_
        refine tm_cl2 (fun r20 h21 e19 => ?_)
        refine tm_callVi (As := [.int x4_5, .int (0 : Int32)]) (rest := []) (q0 := 3) X (ctX3_marks_40 l D ad dA tt h6 x4_5 (0 : Int32) r20 h21 e19) (lw_V q814 q815 q816 q120 q817) cyX3_marks rfl rfl rfl ⟨(Nat.le_of_ble_eq_true rfl), (Nat.le_of_ble_eq_true rfl)⟩ (Nat.le_of_ble_eq_true rfl) dX0_best_58 ⟨Nat.le_of_ble_eq_true rfl, Nat.le_of_ble_eq_true rfl⟩ rfl ?_
        refine tm_aload_n X 1 dX0_best_61 rfl rfl ?_
        refine tm_getR X (frX_100_5 ad dA tt h21) in_X0 rfl (Nat.le_of_ble_eq_true rfl) q242 rfl dX0_best_62 ?_
        refine tm_iload_n X 3 dX0_best_65 rfl rfl ?_
        refine tm_iconst X (0 : Int32) dX0_best_66 (by decide) ?_
        refine tm_cl2 (fun r23 h24 e22 => ?_)
        refine tm_callVi (As := [.int x3_4, .int (0 : Int32)]) (rest := [.int r20]) (q0 := 3) X (ctX3_marks_40 l D ad dA tt h21 x3_4 (0 : Int32) r23 h24 e22) (lw_V q814 q815 q816 q120 q817) cyX3_marks rfl rfl rfl ⟨(Nat.le_of_ble_eq_true rfl), (Nat.le_of_ble_eq_true rfl)⟩ (Nat.le_of_ble_eq_true rfl) dX0_best_67 ⟨Nat.le_of_ble_eq_true rfl, Nat.le_of_ble_eq_true rfl⟩ rfl ?_
        refine tm_let (fun k => ∀ (s25 : Int32), TM G (r, h') (k s25) (wX ad dA tt h24) 0 0 79 [(0, .ref (ad 100)), (1, .int x1), (2, .int s18), (4, .int x4_5)] [.int s25]) ?_ (fun k79 hk79 => ?_)
        · intro s25
          refine tm_istore_n X [(3, .int s25), (0, .ref (ad 100)), (1, .int x1), (2, .int s18), (4, .int x4_5)] dX0_best_79 rfl (Nat.le_of_ble_eq_true rfl) rfl ?_
          refine tm_iinc (v := (1 : Int32)) X 4 [(4, .int (x4_5 + (1 : Int32))), (3, .int s25), (0, .ref (ad 100)), (1, .int x1), (2, .int s18)] dX0_best_80 rfl (by decide) (Nat.le_of_ble_eq_true rfl) rfl ?_
          refine tm_goto X 17 dX0_best_83 rfl ?_
          refine tm_lv X [2, 3, 4, 1, 0] rfl ?_
          exact hk17 s18 s25 (x4_5 + (1 : Int32)) h24
        · skip
          refine tm_ic_le X 78 dX0_best_70 rfl ?_ ?_
          · skip
            refine tm_iload_n X 3 dX0_best_78 rfl rfl ?_
            refine tm_lv X [1, 2, 0, 4] rfl ?_
            exact hk79 x3_4
          · skip
            refine tm_iload X 4 dX0_best_73 rfl ?_
            refine tm_goto X 79 dX0_best_75 rfl ?_
            refine tm_lv X [1, 2, 0, 4] rfl ?_
            exact hk79 x4_5
      · skip
        refine tm_ic_ge X 49 dX0_best_41 rfl ?_ ?_
        · skip
          refine tm_iload_n X 2 dX0_best_49 rfl rfl ?_
          refine tm_lv X [0, 1, 3, 4] rfl ?_
          exact hk50 x2_3
        · skip
          refine tm_iload X 4 dX0_best_44 rfl ?_
          refine tm_goto X 50 dX0_best_46 rfl ?_
          refine tm_lv X [0, 1, 3, 4] rfl ?_
          exact hk50 x4_5
  · skip
    refine tm_iconst X (-1 : Int32) dX0_best_8 (by decide) ?_
    exact tm_retIH (wf := wX ad dA tt) hRet dX0_best_9
def mX0_gapsIn (h : Hp) (x1 : Int32) : Option (Int32) :=
cl1 (mX3_opening 40 h x1) (fun r2 =>
fx FU (fun _ _ => none) (fun k14 (x3_3 : Int32) (x4_4 : Int32) =>
if (48 : Int32) ≤ x4_4 then (
some x3_3) else (
cl1 (mX0_facing x4_4 x1) (fun r5 =>
nm (fun (s7 : Int32) =>
nm ((x3_3 + s7)) (fun v8 =>
k14 v8 (x4_4 + (1 : Int32)))) (fun k48 =>
if r5 = (-1 : Int32) then (
k48 (0 : Int32)) else (
cl1 (mX3_sumAt 40 h x4_4 x1) (fun r10 =>
k48 (r2 - r10))))))) (0 : Int32) (0 : Int32))
theorem cyX0_gapsIn : Callee yX0_gapsIn 1 := by unfold Callee; decide +kernel
set_option maxHeartbeats 4000000 in
theorem ctX0_gapsIn (l : Launch) (D : va_G) (ad : Nat → Nat) (dA : Nat → ClassId) (tt : (Nat → Option Nat) × (Nat → Option Nat) × va_W) (h : Hp) (x1 : Int32) (r : Int32) (hm : mX0_gapsIn h x1 = some r) : CT l yX0_gapsIn cX0_gapsIn 5 (some .int) D dA 5 108 0 0 (wX ad dA tt h) [.ref (ad 100), .int x1] (some (.int r)) (wX ad dA tt h) := by
  refine ct_open (by decide) (Nat.le_of_ble_eq_true rfl) ?_
  intro G X hI hZ hV hR
  have hRet := hI rfl r rfl
  refine (show TM G r (mX0_gapsIn h x1) (wX ad dA tt h) 0 0 0 [(0, .ref (ad 100)), (1, .int x1)] [] from ?_) hm
  clear hm hI hZ hV hR
  unfold mX0_gapsIn
  refine tm_aload_n X 0 dX0_gapsIn_0 rfl rfl ?_
  refine tm_getR X (frX_100_5 ad dA tt h) in_X0 rfl (Nat.le_of_ble_eq_true rfl) q242 rfl dX0_gapsIn_1 ?_
  refine tm_iload_n X 1 dX0_gapsIn_4 rfl rfl ?_
  refine tm_cl1 (fun r2 e1 => ?_)
  refine tm_callVi (As := [.int x1]) (rest := []) (q0 := 3) X (ctX3_opening_40 l D ad dA tt h x1 r2 e1) (lw_V q833 q819 q820 q120 q821) cyX3_opening rfl rfl rfl ⟨(Nat.le_of_ble_eq_true rfl), (Nat.le_of_ble_eq_true rfl)⟩ (Nat.le_of_ble_eq_true rfl) dX0_gapsIn_5 ⟨Nat.le_of_ble_eq_true rfl, Nat.le_of_ble_eq_true rfl⟩ rfl ?_
  refine tm_istore_n X [(2, .int r2), (0, .ref (ad 100)), (1, .int x1)] dX0_gapsIn_8 rfl (Nat.le_of_ble_eq_true rfl) rfl ?_
  refine tm_iconst X (0 : Int32) dX0_gapsIn_9 (by decide) ?_
  refine tm_istore_n X [(3, .int (0 : Int32)), (2, .int r2), (0, .ref (ad 100)), (1, .int x1)] dX0_gapsIn_10 rfl (Nat.le_of_ble_eq_true rfl) rfl ?_
  refine tm_iconst X (0 : Int32) dX0_gapsIn_11 (by decide) ?_
  refine tm_istore X [(4, .int (0 : Int32)), (3, .int (0 : Int32)), (2, .int r2), (0, .ref (ad 100)), (1, .int x1)] dX0_gapsIn_12 (Nat.le_of_ble_eq_true rfl) rfl ?_
  refine tm_lv X [3, 4, 2, 1, 0] rfl ?_
  refine fx_P (fun (k : Int32 → Int32 → Option (Int32)) => ∀ (x3_3 : Int32) (x4_4 : Int32), TM G r (k x3_3 x4_4) (wX ad dA tt h) 0 0 14 [(0, .ref (ad 100)), (1, .int x1), (2, .int r2), (3, .int x3_3), (4, .int x4_4)] []) (fun _ _ => tm_none) (fun k14 hk14 x3_3 x4_4 => ?_) FU (0 : Int32) (0 : Int32)
  refine tm_iload X 4 dX0_gapsIn_14 rfl ?_
  refine tm_bipush X (48 : Int32) dX0_gapsIn_16 (by decide) ?_
  refine tm_ic_ge X 56 dX0_gapsIn_18 rfl ?_ ?_
  · skip
    refine tm_iload_n X 3 dX0_gapsIn_56 rfl rfl ?_
    exact tm_retI hRet dX0_gapsIn_57
  · skip
    refine tm_iload_n X 3 dX0_gapsIn_21 rfl rfl ?_
    refine tm_iload X 4 dX0_gapsIn_22 rfl ?_
    refine tm_iload_n X 1 dX0_gapsIn_24 rfl rfl ?_
    refine tm_cl1 (fun r5 e6 => ?_)
    refine tm_callSi (As := [.int x4_4, .int x1]) (rest := [.int x3_3]) X (ctX0_facing l D dA x4_4 x1 r5 e6) (lw_S q842 q823 q117 q824) cyX0_facing rfl ⟨(Nat.le_of_ble_eq_true rfl), (Nat.le_of_ble_eq_true rfl)⟩ (Nat.le_of_ble_eq_true rfl) dX0_gapsIn_25 ⟨Nat.le_of_ble_eq_true rfl, Nat.le_of_ble_eq_true rfl⟩ rfl ?_
    refine tm_iconst X (-1 : Int32) dX0_gapsIn_28 (by decide) ?_
    refine tm_let (fun k => ∀ (s7 : Int32), TM G r (k s7) (wX ad dA tt h) 0 0 48 [(0, .ref (ad 100)), (1, .int x1), (2, .int r2), (4, .int x4_4)] [.int s7, .int x3_3]) ?_ (fun k48 hk48 => ?_)
    · intro s7
      refine tm_iadd X dX0_gapsIn_48 ?_
      refine tm_nmI (fun v8 => ?_)
      refine tm_istore_n X [(3, .int v8), (0, .ref (ad 100)), (1, .int x1), (2, .int r2), (4, .int x4_4)] dX0_gapsIn_49 rfl (Nat.le_of_ble_eq_true rfl) rfl ?_
      refine tm_iinc (v := (1 : Int32)) X 4 [(4, .int (x4_4 + (1 : Int32))), (3, .int v8), (0, .ref (ad 100)), (1, .int x1), (2, .int r2)] dX0_gapsIn_50 rfl (by decide) (Nat.le_of_ble_eq_true rfl) rfl ?_
      refine tm_goto X 14 dX0_gapsIn_53 rfl ?_
      refine tm_lv X [2, 3, 4, 1, 0] rfl ?_
      exact hk14 v8 (x4_4 + (1 : Int32))
    · skip
      refine tm_ic_ne X 36 dX0_gapsIn_29 rfl ?_ ?_
      · skip
        refine tm_iload_n X 2 dX0_gapsIn_36 rfl rfl ?_
        refine tm_aload_n X 0 dX0_gapsIn_37 rfl rfl ?_
        refine tm_getR X (frX_100_5 ad dA tt h) in_X0 rfl (Nat.le_of_ble_eq_true rfl) q242 rfl dX0_gapsIn_38 ?_
        refine tm_iload X 4 dX0_gapsIn_41 rfl ?_
        refine tm_iload_n X 1 dX0_gapsIn_43 rfl rfl ?_
        refine tm_cl1 (fun r10 e9 => ?_)
        refine tm_callVi (As := [.int x4_4, .int x1]) (rest := [.int r2, .int x3_3]) (q0 := 3) X (ctX3_sumAt_40 l D ad dA tt h x4_4 x1 r10 e9) (lw_V q848 q829 q830 q120 q831) cyX3_sumAt rfl rfl rfl ⟨(Nat.le_of_ble_eq_true rfl), (Nat.le_of_ble_eq_true rfl)⟩ (Nat.le_of_ble_eq_true rfl) dX0_gapsIn_44 ⟨Nat.le_of_ble_eq_true rfl, Nat.le_of_ble_eq_true rfl⟩ rfl ?_
        refine tm_isub X dX0_gapsIn_47 ?_
        refine tm_lv X [0, 1, 2, 4] rfl ?_
        exact hk48 (r2 - r10)
      · skip
        refine tm_iconst X (0 : Int32) dX0_gapsIn_32 (by decide) ?_
        refine tm_goto X 48 dX0_gapsIn_33 rfl ?_
        refine tm_lv X [0, 1, 2, 4] rfl ?_
        exact hk48 (0 : Int32)
def mX0_evenest (h : Hp) (x1 : Int32) : Option (Int32) :=
cl1 (mX0_in x1 (2 : Int32)) (fun r1 =>
if r1 = 0 then (
some (-1 : Int32)) else (
fx FU (fun _ _ => none) (fun k14 (x2_3 : Int32) (x3_4 : Int32) =>
if (63 : Int32) ≤ x3_4 then (
nm (fun (s5 : Int32) =>
some s5) (fun k66 =>
if x1 = 0 then (
k66 x2_3) else (
cl1 (mX0_gapsIn h x2_3) (fun r7 =>
k66 r7)))) else (
cl1 (mX0_gapsIn h x3_4) (fun r9 =>
cl1 (mX0_faced h x2_3) (fun r11 =>
cl1 (mX0_gapsIn h x2_3) (fun r13 =>
cl1 (mX0_faced h x3_4) (fun r15 =>
nm (fun (x2_16 : Int32) =>
k14 x2_16 (x3_4 + (1 : Int32))) (fun k47 =>
if (r13 * r15) ≤ (r9 * r11) then (
k47 x2_3) else (
k47 x3_4)))))))) (0 : Int32) (1 : Int32)))
theorem cyX0_evenest : Callee yX0_evenest 1 := by unfold Callee; decide +kernel
set_option maxHeartbeats 4000000 in
theorem ctX0_evenest (l : Launch) (D : va_G) (ad : Nat → Nat) (dA : Nat → ClassId) (tt : (Nat → Option Nat) × (Nat → Option Nat) × va_W) (h : Hp) (x1 : Int32) (r : Int32) (hm : mX0_evenest h x1 = some r) : CT l yX0_evenest cX0_evenest 4 (some .int) D dA 6 132 0 0 (wX ad dA tt h) [.ref (ad 100), .int x1] (some (.int r)) (wX ad dA tt h) := by
  refine ct_open (by decide) (Nat.le_of_ble_eq_true rfl) ?_
  intro G X hI hZ hV hR
  have hRet := hI rfl r rfl
  refine (show TM G r (mX0_evenest h x1) (wX ad dA tt h) 0 0 0 [(0, .ref (ad 100)), (1, .int x1)] [] from ?_) hm
  clear hm hI hZ hV hR
  unfold mX0_evenest
  refine tm_iload_n X 1 dX0_evenest_0 rfl rfl ?_
  refine tm_iconst X (2 : Int32) dX0_evenest_1 (by decide) ?_
  refine tm_cl1 (fun r1 e2 => ?_)
  refine tm_callSi (As := [.int x1, .int (2 : Int32)]) (rest := []) X (ctX0_in l D dA x1 (2 : Int32) r1 e2) (lw_S q311 q312 q117 q313) cyX0_in rfl ⟨(Nat.le_of_ble_eq_true rfl), (Nat.le_of_ble_eq_true rfl)⟩ (Nat.le_of_ble_eq_true rfl) dX0_evenest_2 ⟨Nat.le_of_ble_eq_true rfl, Nat.le_of_ble_eq_true rfl⟩ rfl ?_
  refine tm_if_ne X 10 dX0_evenest_5 rfl ?_ ?_
  · skip
    refine tm_iconst X (0 : Int32) dX0_evenest_10 (by decide) ?_
    refine tm_istore_n X [(2, .int (0 : Int32)), (0, .ref (ad 100)), (1, .int x1)] dX0_evenest_11 rfl (Nat.le_of_ble_eq_true rfl) rfl ?_
    refine tm_iconst X (1 : Int32) dX0_evenest_12 (by decide) ?_
    refine tm_istore_n X [(3, .int (1 : Int32)), (2, .int (0 : Int32)), (0, .ref (ad 100)), (1, .int x1)] dX0_evenest_13 rfl (Nat.le_of_ble_eq_true rfl) rfl ?_
    refine tm_lv X [2, 3, 1, 0] rfl ?_
    refine fx_P (fun (k : Int32 → Int32 → Option (Int32)) => ∀ (x2_3 : Int32) (x3_4 : Int32), TM G r (k x2_3 x3_4) (wX ad dA tt h) 0 0 14 [(0, .ref (ad 100)), (1, .int x1), (2, .int x2_3), (3, .int x3_4)] []) (fun _ _ => tm_none) (fun k14 hk14 x2_3 x3_4 => ?_) FU (0 : Int32) (1 : Int32)
    refine tm_iload_n X 3 dX0_evenest_14 rfl rfl ?_
    refine tm_bipush X (63 : Int32) dX0_evenest_15 (by decide) ?_
    refine tm_ic_ge X 53 dX0_evenest_17 rfl ?_ ?_
    · skip
      refine tm_iload_n X 1 dX0_evenest_53 rfl rfl ?_
      refine tm_let (fun k => ∀ (s5 : Int32), TM G r (k s5) (wX ad dA tt h) 0 0 66 [] [.int s5]) ?_ (fun k66 hk66 => ?_)
      · intro s5
        exact tm_retI hRet dX0_evenest_66
      · skip
        refine tm_if_ne X 61 dX0_evenest_54 rfl ?_ ?_
        · skip
          refine tm_aload_n X 0 dX0_evenest_61 rfl rfl ?_
          refine tm_iload_n X 2 dX0_evenest_62 rfl rfl ?_
          refine tm_cl1 (fun r7 e6 => ?_)
          refine tm_callVi (As := [.int x2_3]) (rest := []) (q0 := 0) X (ctX0_gapsIn l D ad dA tt h x2_3 r7 e6) (lw_V q858 q860 qs23 q117 q861) cyX0_gapsIn rfl rfl rfl ⟨(Nat.le_of_ble_eq_true rfl), (Nat.le_of_ble_eq_true rfl)⟩ (Nat.le_of_ble_eq_true rfl) dX0_evenest_63 ⟨Nat.le_of_ble_eq_true rfl, Nat.le_of_ble_eq_true rfl⟩ rfl ?_
          refine tm_lv X [] rfl ?_
          exact hk66 r7
        · skip
          refine tm_iload_n X 2 dX0_evenest_57 rfl rfl ?_
          refine tm_goto X 66 dX0_evenest_58 rfl ?_
          refine tm_lv X [] rfl ?_
          exact hk66 x2_3
    · skip
      refine tm_aload_n X 0 dX0_evenest_20 rfl rfl ?_
      refine tm_iload_n X 3 dX0_evenest_21 rfl rfl ?_
      refine tm_cl1 (fun r9 e8 => ?_)
      refine tm_callVi (As := [.int x3_4]) (rest := []) (q0 := 0) X (ctX0_gapsIn l D ad dA tt h x3_4 r9 e8) (lw_V q858 q860 qs23 q117 q861) cyX0_gapsIn rfl rfl rfl ⟨(Nat.le_of_ble_eq_true rfl), (Nat.le_of_ble_eq_true rfl)⟩ (Nat.le_of_ble_eq_true rfl) dX0_evenest_22 ⟨Nat.le_of_ble_eq_true rfl, Nat.le_of_ble_eq_true rfl⟩ rfl ?_
      refine tm_aload_n X 0 dX0_evenest_25 rfl rfl ?_
      refine tm_iload_n X 2 dX0_evenest_26 rfl rfl ?_
      refine tm_cl1 (fun r11 e10 => ?_)
      refine tm_callVi (As := [.int x2_3]) (rest := [.int r9]) (q0 := 0) X (ctX0_faced l D ad dA tt h x2_3 r11 e10) (lw_V q838 q840 qs21 q117 q841) cyX0_faced rfl rfl rfl ⟨(Nat.le_of_ble_eq_true rfl), (Nat.le_of_ble_eq_true rfl)⟩ (Nat.le_of_ble_eq_true rfl) dX0_evenest_27 ⟨Nat.le_of_ble_eq_true rfl, Nat.le_of_ble_eq_true rfl⟩ rfl ?_
      refine tm_imul X dX0_evenest_30 ?_
      refine tm_aload_n X 0 dX0_evenest_31 rfl rfl ?_
      refine tm_iload_n X 2 dX0_evenest_32 rfl rfl ?_
      refine tm_cl1 (fun r13 e12 => ?_)
      refine tm_callVi (As := [.int x2_3]) (rest := [.int (r9 * r11)]) (q0 := 0) X (ctX0_gapsIn l D ad dA tt h x2_3 r13 e12) (lw_V q858 q860 qs23 q117 q861) cyX0_gapsIn rfl rfl rfl ⟨(Nat.le_of_ble_eq_true rfl), (Nat.le_of_ble_eq_true rfl)⟩ (Nat.le_of_ble_eq_true rfl) dX0_evenest_33 ⟨Nat.le_of_ble_eq_true rfl, Nat.le_of_ble_eq_true rfl⟩ rfl ?_
      refine tm_aload_n X 0 dX0_evenest_36 rfl rfl ?_
      refine tm_iload_n X 3 dX0_evenest_37 rfl rfl ?_
      refine tm_cl1 (fun r15 e14 => ?_)
      refine tm_callVi (As := [.int x3_4]) (rest := [.int r13, .int (r9 * r11)]) (q0 := 0) X (ctX0_faced l D ad dA tt h x3_4 r15 e14) (lw_V q838 q840 qs21 q117 q841) cyX0_faced rfl rfl rfl ⟨(Nat.le_of_ble_eq_true rfl), (Nat.le_of_ble_eq_true rfl)⟩ (Nat.le_of_ble_eq_true rfl) dX0_evenest_38 ⟨Nat.le_of_ble_eq_true rfl, Nat.le_of_ble_eq_true rfl⟩ rfl ?_
      refine tm_imul X dX0_evenest_41 ?_
      refine tm_let (fun k => ∀ (x2_16 : Int32), TM G r (k x2_16) (wX ad dA tt h) 0 0 47 [(0, .ref (ad 100)), (1, .int x1), (2, .int x2_16), (3, .int x3_4)] []) ?_ (fun k47 hk47 => ?_)
      · intro x2_16
        refine tm_iinc (v := (1 : Int32)) X 3 [(3, .int (x3_4 + (1 : Int32))), (0, .ref (ad 100)), (1, .int x1), (2, .int x2_16)] dX0_evenest_47 rfl (by decide) (Nat.le_of_ble_eq_true rfl) rfl ?_
        refine tm_goto X 14 dX0_evenest_50 rfl ?_
        refine tm_lv X [1, 2, 3, 0] rfl ?_
        exact hk14 x2_16 (x3_4 + (1 : Int32))
      · skip
        refine tm_ic_ge X 47 dX0_evenest_42 rfl ?_ ?_
        · skip
          exact hk47 x2_3
        · skip
          refine tm_iload_n X 3 dX0_evenest_45 rfl rfl ?_
          refine tm_istore_n X [(2, .int x3_4), (0, .ref (ad 100)), (1, .int x1), (3, .int x3_4)] dX0_evenest_46 rfl (Nat.le_of_ble_eq_true rfl) rfl ?_
          refine tm_lv X [1, 2, 0, 3] rfl ?_
          exact hk47 x3_4
  · skip
    refine tm_iconst X (-1 : Int32) dX0_evenest_8 (by decide) ?_
    exact tm_retI hRet dX0_evenest_9
def mX0_comes (h : Hp) (x1 : Int32) : Option (Int32 × Hp) :=
fx FU (fun _ _ => none) (fun k2 (x2_1 : Int32) (h2 : Hp) =>
if (63 : Int32) ≤ x2_1 then (
nm (u2 h2 14 0 (31 : Int32)) (fun h3 =>
fx FU (fun _ _ _ => none) (fun k57 (x2_4 : Int32) (x3_5 : Int32) (h6 : Hp) =>
if x2_4 ≤ x3_5 then (
some (x2_4, h6)) else (
fx FU (fun _ _ _ => none) (fun k65 (x2_7 : Int32) (x4_8 : Int32) (h9 : Hp) =>
if (4 : Int32) ≤ x4_8 then (
k57 x2_7 (x3_5 + (1 : Int32)) h9) else (
ck x3_5 63 (
cl1 (mX0_stepped (h9 14 x3_5.toNatClampNeg) x4_8) (fun r10 =>
nm (fun (x2_12 : Int32) (h13 : Hp) =>
k65 x2_12 (x4_8 + (1 : Int32)) h13) (fun k158 =>
if r10 = (-1 : Int32) then (
k158 x2_7 h9) else (
ck r10 63 (
if (h9 13 r10.toNatClampNeg) = (-1 : Int32) then (
ck r10 63 (
ck x3_5 63 (
nm ((h9 14 x3_5.toNatClampNeg)) (fun v14 =>
ck v14 63 (
if ((h9 12 r10.toNatClampNeg) - (h9 12 v14.toNatClampNeg)) ≤ x1 then (
ck x3_5 63 (
nm ((h9 14 x3_5.toNatClampNeg)) (fun v15 =>
ck v15 63 (
ck r10 63 (nm (u2 h9 13 r10.toNatClampNeg ((h9 13 v15.toNatClampNeg) + (1 : Int32))) (fun h16 =>
ck x2_7 63 (nm (u2 h16 14 x2_7.toNatClampNeg r10) (fun h17 =>
k158 (x2_7 + (1 : Int32)) h17)))))))) else (
k158 x2_7 h9)))))) else (
k158 x2_7 h9)))))))) x2_4 (0 : Int32) h6)) (1 : Int32) (0 : Int32) h3)) else (
cl1 (mX3_opening 40 h2 x2_1) (fun r19 =>
ck x2_1 63 (nm (u2 h2 12 x2_1.toNatClampNeg r19) (fun h20 =>
nm (fun (s21 : Int32) =>
ck x2_1 63 (nm (u2 h20 13 x2_1.toNatClampNeg s21) (fun h22 =>
k2 (x2_1 + (1 : Int32)) h22))) (fun k38 =>
if x2_1 = (31 : Int32) then (
k38 (0 : Int32)) else (
k38 (-1 : Int32)))))))) (0 : Int32) h
theorem cyX0_comes : Callee yX0_comes 1 := by unfold Callee; decide +kernel
set_option maxHeartbeats 4000000 in
theorem ctX0_comes (l : Launch) (D : va_G) (ad : Nat → Nat) (dA : Nat → ClassId) (tt : (Nat → Option Nat) × (Nat → Option Nat) × va_W) (h : Hp) (x1 : Int32) (r : Int32) (h' : Hp) (hm : mX0_comes h x1 = some (r, h')) : CT l yX0_comes cX0_comes 6 (some .int) D dA 5 108 0 0 (wX ad dA tt h) [.ref (ad 100), .int x1] (some (.int r)) (wX ad dA tt h') := by
  refine ct_open (by decide) (Nat.le_of_ble_eq_true rfl) ?_
  intro G X hI hZ hV hR
  have hRet := hI rfl r rfl
  refine (show TM G (r, h') (mX0_comes h x1) (wX ad dA tt h) 0 0 0 [(0, .ref (ad 100)), (1, .int x1)] [] from ?_) hm
  clear hm hI hZ hV hR
  unfold mX0_comes
  refine tm_iconst X (0 : Int32) dX0_comes_0 (by decide) ?_
  refine tm_istore_n X [(2, .int (0 : Int32)), (0, .ref (ad 100)), (1, .int x1)] dX0_comes_1 rfl (Nat.le_of_ble_eq_true rfl) rfl ?_
  refine tm_lv X [1, 2, 0] rfl ?_
  refine fx_P (fun (k : Int32 → Hp → Option (Int32 × Hp)) => ∀ (x2_1 : Int32) (h2 : Hp), TM G (r, h') (k x2_1 h2) (wX ad dA tt h2) 0 0 2 [(0, .ref (ad 100)), (1, .int x1), (2, .int x2_1)] []) (fun _ _ => tm_none) (fun k2 hk2 x2_1 h2 => ?_) FU (0 : Int32) h
  refine tm_iload_n X 2 dX0_comes_2 rfl rfl ?_
  refine tm_bipush X (63 : Int32) dX0_comes_3 (by decide) ?_
  refine tm_ic_ge X 45 dX0_comes_5 rfl ?_ ?_
  · skip
    refine tm_aload_n X 0 dX0_comes_45 rfl rfl ?_
    refine tm_getR X (frX_100_14 ad dA tt h2) in_X0 rfl (Nat.le_of_ble_eq_true rfl) q254 rfl dX0_comes_46 ?_
    refine tm_iconst X (0 : Int32) dX0_comes_49 (by decide) ?_
    refine tm_bipush X (31 : Int32) dX0_comes_50 (by decide) ?_
    refine tm_iastoreL (j := 0) X (arX_14 ad dA tt) (by unfold vp_in; decide) (by decide) dX0_comes_52 (fun h3 => ?_)
    refine tm_iconst X (1 : Int32) dX0_comes_53 (by decide) ?_
    refine tm_istore_n X [(2, .int (1 : Int32)), (0, .ref (ad 100)), (1, .int x1)] dX0_comes_54 rfl (Nat.le_of_ble_eq_true rfl) rfl ?_
    refine tm_iconst X (0 : Int32) dX0_comes_55 (by decide) ?_
    refine tm_istore_n X [(3, .int (0 : Int32)), (2, .int (1 : Int32)), (0, .ref (ad 100)), (1, .int x1)] dX0_comes_56 rfl (Nat.le_of_ble_eq_true rfl) rfl ?_
    refine tm_lv X [2, 3, 1, 0] rfl ?_
    refine fx_P (fun (k : Int32 → Int32 → Hp → Option (Int32 × Hp)) => ∀ (x2_4 : Int32) (x3_5 : Int32) (h6 : Hp), TM G (r, h') (k x2_4 x3_5 h6) (wX ad dA tt h6) 0 0 57 [(0, .ref (ad 100)), (1, .int x1), (2, .int x2_4), (3, .int x3_5)] []) (fun _ _ _ => tm_none) (fun k57 hk57 x2_4 x3_5 h6 => ?_) FU (1 : Int32) (0 : Int32) h3
    refine tm_iload_n X 3 dX0_comes_57 rfl rfl ?_
    refine tm_iload_n X 2 dX0_comes_58 rfl rfl ?_
    refine tm_ic_ge X 170 dX0_comes_59 rfl ?_ ?_
    · skip
      refine tm_iload_n X 2 dX0_comes_170 rfl rfl ?_
      exact tm_retIH (wf := wX ad dA tt) hRet dX0_comes_171
    · skip
      refine tm_iconst X (0 : Int32) dX0_comes_62 (by decide) ?_
      refine tm_istore X [(4, .int (0 : Int32)), (0, .ref (ad 100)), (1, .int x1), (2, .int x2_4), (3, .int x3_5)] dX0_comes_63 (Nat.le_of_ble_eq_true rfl) rfl ?_
      refine tm_lv X [1, 2, 3, 4, 0] rfl ?_
      refine fx_P (fun (k : Int32 → Int32 → Hp → Option (Int32 × Hp)) => ∀ (x2_7 : Int32) (x4_8 : Int32) (h9 : Hp), TM G (r, h') (k x2_7 x4_8 h9) (wX ad dA tt h9) 0 0 65 [(0, .ref (ad 100)), (1, .int x1), (2, .int x2_7), (3, .int x3_5), (4, .int x4_8)] []) (fun _ _ _ => tm_none) (fun k65 hk65 x2_7 x4_8 h9 => ?_) FU x2_4 (0 : Int32) h6
      refine tm_iload X 4 dX0_comes_65 rfl ?_
      refine tm_iconst X (4 : Int32) dX0_comes_67 (by decide) ?_
      refine tm_ic_ge X 164 dX0_comes_68 rfl ?_ ?_
      · skip
        refine tm_iinc (v := (1 : Int32)) X 3 [(3, .int (x3_5 + (1 : Int32))), (0, .ref (ad 100)), (1, .int x1), (2, .int x2_7), (4, .int x4_8)] dX0_comes_164 rfl (by decide) (Nat.le_of_ble_eq_true rfl) rfl ?_
        refine tm_goto X 57 dX0_comes_167 rfl ?_
        refine tm_lv X [1, 2, 3, 0] rfl ?_
        exact hk57 x2_7 (x3_5 + (1 : Int32)) h9
      · skip
        refine tm_aload_n X 0 dX0_comes_71 rfl rfl ?_
        refine tm_getR X (frX_100_14 ad dA tt h9) in_X0 rfl (Nat.le_of_ble_eq_true rfl) q254 rfl dX0_comes_72 ?_
        refine tm_iload_n X 3 dX0_comes_75 rfl rfl ?_
        refine tm_iaload X (arX_14 ad dA tt) dX0_comes_76 ?_
        refine tm_iload X 4 dX0_comes_77 rfl ?_
        refine tm_cl1 (fun r10 e11 => ?_)
        refine tm_callSi (As := [.int (h9 14 x3_5.toNatClampNeg), .int x4_8]) (rest := []) X (ctX0_stepped l D dA (h9 14 x3_5.toNatClampNeg) x4_8 r10 e11) (lw_S q795 q796 q117 q797) cyX0_stepped rfl ⟨(Nat.le_of_ble_eq_true rfl), (Nat.le_of_ble_eq_true rfl)⟩ (Nat.le_of_ble_eq_true rfl) dX0_comes_79 ⟨Nat.le_of_ble_eq_true rfl, Nat.le_of_ble_eq_true rfl⟩ rfl ?_
        refine tm_istore X [(5, .int r10), (0, .ref (ad 100)), (1, .int x1), (2, .int x2_7), (3, .int x3_5), (4, .int x4_8)] dX0_comes_82 (Nat.le_of_ble_eq_true rfl) rfl ?_
        refine tm_iload X 0 dX0_comes_84 rfl ?_
        refine tm_iconst X (-1 : Int32) dX0_comes_86 (by decide) ?_
        refine tm_let (fun k => ∀ (x2_12 : Int32) (h13 : Hp), TM G (r, h') (k x2_12 h13) (wX ad dA tt h13) 0 0 158 [(0, .ref (ad 100)), (1, .int x1), (2, .int x2_12), (3, .int x3_5), (4, .int x4_8)] []) ?_ (fun k158 hk158 => ?_)
        · intro x2_12 h13
          refine tm_iinc (v := (1 : Int32)) X 4 [(4, .int (x4_8 + (1 : Int32))), (0, .ref (ad 100)), (1, .int x1), (2, .int x2_12), (3, .int x3_5)] dX0_comes_158 rfl (by decide) (Nat.le_of_ble_eq_true rfl) rfl ?_
          refine tm_goto X 65 dX0_comes_161 rfl ?_
          refine tm_lv X [1, 2, 3, 4, 0] rfl ?_
          exact hk65 x2_12 (x4_8 + (1 : Int32)) h13
        · skip
          refine tm_ic_eq X 158 dX0_comes_87 rfl ?_ ?_
          · skip
            refine tm_lv X [1, 2, 3, 4, 5] rfl ?_
            exact hk158 x2_7 h9
          · skip
            refine tm_aload_n X 1 dX0_comes_90 rfl rfl ?_
            refine tm_getR X (frX_100_13 ad dA tt h9) in_X0 rfl (Nat.le_of_ble_eq_true rfl) q253 rfl dX0_comes_91 ?_
            refine tm_iload X 0 dX0_comes_94 rfl ?_
            refine tm_iaload X (arX_13 ad dA tt) dX0_comes_96 ?_
            refine tm_iconst X (-1 : Int32) dX0_comes_97 (by decide) ?_
            refine tm_ic_ne X 158 dX0_comes_98 rfl ?_ ?_
            · skip
              refine tm_lv X [1, 2, 3, 4, 5] rfl ?_
              exact hk158 x2_7 h9
            · skip
              refine tm_aload_n X 1 dX0_comes_101 rfl rfl ?_
              refine tm_getR X (frX_100_12 ad dA tt h9) in_X0 rfl (Nat.le_of_ble_eq_true rfl) q252 rfl dX0_comes_102 ?_
              refine tm_iload X 0 dX0_comes_105 rfl ?_
              refine tm_iaload X (arX_12 ad dA tt) dX0_comes_107 ?_
              refine tm_aload_n X 1 dX0_comes_108 rfl rfl ?_
              refine tm_getR X (frX_100_12 ad dA tt h9) in_X0 rfl (Nat.le_of_ble_eq_true rfl) q252 rfl dX0_comes_109 ?_
              refine tm_aload_n X 1 dX0_comes_112 rfl rfl ?_
              refine tm_getR X (frX_100_14 ad dA tt h9) in_X0 rfl (Nat.le_of_ble_eq_true rfl) q254 rfl dX0_comes_113 ?_
              refine tm_iload_n X 4 dX0_comes_116 rfl rfl ?_
              refine tm_iaload X (arX_14 ad dA tt) dX0_comes_117 ?_
              refine tm_nmI (fun v14 => ?_)
              refine tm_iaload X (arX_12 ad dA tt) dX0_comes_118 ?_
              refine tm_isub X dX0_comes_119 ?_
              refine tm_iload_n X 2 dX0_comes_120 rfl rfl ?_
              refine tm_ic_le X 127 dX0_comes_121 rfl ?_ ?_
              · skip
                refine tm_aload_n X 1 dX0_comes_127 rfl rfl ?_
                refine tm_getR X (frX_100_13 ad dA tt h9) in_X0 rfl (Nat.le_of_ble_eq_true rfl) q253 rfl dX0_comes_128 ?_
                refine tm_iload X 0 dX0_comes_131 rfl ?_
                refine tm_aload_n X 1 dX0_comes_133 rfl rfl ?_
                refine tm_getR X (frX_100_13 ad dA tt h9) in_X0 rfl (Nat.le_of_ble_eq_true rfl) q253 rfl dX0_comes_134 ?_
                refine tm_aload_n X 1 dX0_comes_137 rfl rfl ?_
                refine tm_getR X (frX_100_14 ad dA tt h9) in_X0 rfl (Nat.le_of_ble_eq_true rfl) q254 rfl dX0_comes_138 ?_
                refine tm_iload_n X 4 dX0_comes_141 rfl rfl ?_
                refine tm_iaload X (arX_14 ad dA tt) dX0_comes_142 ?_
                refine tm_nmI (fun v15 => ?_)
                refine tm_iaload X (arX_13 ad dA tt) dX0_comes_143 ?_
                refine tm_iconst X (1 : Int32) dX0_comes_144 (by decide) ?_
                refine tm_iadd X dX0_comes_145 ?_
                refine tm_iastore X (arX_13 ad dA tt) dX0_comes_146 (fun h16 => ?_)
                refine tm_aload_n X 1 dX0_comes_147 rfl rfl ?_
                refine tm_getR X (frX_100_14 ad dA tt h16) in_X0 rfl (Nat.le_of_ble_eq_true rfl) q254 rfl dX0_comes_148 ?_
                refine tm_iload_n X 3 dX0_comes_151 rfl rfl ?_
                refine tm_iload X 0 dX0_comes_152 rfl ?_
                refine tm_iastore X (arX_14 ad dA tt) dX0_comes_154 (fun h17 => ?_)
                refine tm_iinc (v := (1 : Int32)) X 3 [(2, .int (x2_7 + (1 : Int32))), (5, .int r10), (0, .ref (ad 100)), (1, .int x1), (3, .int x3_5), (4, .int x4_8)] dX0_comes_155 rfl (by decide) (Nat.le_of_ble_eq_true rfl) rfl ?_
                refine tm_lv X [2, 3, 0, 4, 5] rfl ?_
                exact hk158 (x2_7 + (1 : Int32)) h17
              · skip
                refine tm_goto X 158 dX0_comes_124 rfl ?_
                refine tm_lv X [1, 2, 3, 4, 5] rfl ?_
                exact hk158 x2_7 h9
  · skip
    refine tm_aload_n X 0 dX0_comes_8 rfl rfl ?_
    refine tm_getR X (frX_100_12 ad dA tt h2) in_X0 rfl (Nat.le_of_ble_eq_true rfl) q252 rfl dX0_comes_9 ?_
    refine tm_iload_n X 2 dX0_comes_12 rfl rfl ?_
    refine tm_aload_n X 0 dX0_comes_13 rfl rfl ?_
    refine tm_getR X (frX_100_5 ad dA tt h2) in_X0 rfl (Nat.le_of_ble_eq_true rfl) q242 rfl dX0_comes_14 ?_
    refine tm_iload_n X 2 dX0_comes_17 rfl rfl ?_
    refine tm_cl1 (fun r19 e18 => ?_)
    refine tm_callVi (As := [.int x2_1]) (rest := [.int x2_1, .ref (ad 12)]) (q0 := 3) X (ctX3_opening_40 l D ad dA tt h2 x2_1 r19 e18) (lw_V q833 q819 q820 q120 q821) cyX3_opening rfl rfl rfl ⟨(Nat.le_of_ble_eq_true rfl), (Nat.le_of_ble_eq_true rfl)⟩ (Nat.le_of_ble_eq_true rfl) dX0_comes_18 ⟨Nat.le_of_ble_eq_true rfl, Nat.le_of_ble_eq_true rfl⟩ rfl ?_
    refine tm_iastore X (arX_12 ad dA tt) dX0_comes_21 (fun h20 => ?_)
    refine tm_aload_n X 0 dX0_comes_22 rfl rfl ?_
    refine tm_getR X (frX_100_13 ad dA tt h20) in_X0 rfl (Nat.le_of_ble_eq_true rfl) q253 rfl dX0_comes_23 ?_
    refine tm_iload_n X 2 dX0_comes_26 rfl rfl ?_
    refine tm_iload_n X 2 dX0_comes_27 rfl rfl ?_
    refine tm_bipush X (31 : Int32) dX0_comes_28 (by decide) ?_
    refine tm_let (fun k => ∀ (s21 : Int32), TM G (r, h') (k s21) (wX ad dA tt h20) 0 0 38 [(0, .ref (ad 100)), (1, .int x1), (2, .int x2_1)] [.int s21, .int x2_1, .ref (ad 13)]) ?_ (fun k38 hk38 => ?_)
    · intro s21
      refine tm_iastore X (arX_13 ad dA tt) dX0_comes_38 (fun h22 => ?_)
      refine tm_iinc (v := (1 : Int32)) X 2 [(2, .int (x2_1 + (1 : Int32))), (0, .ref (ad 100)), (1, .int x1)] dX0_comes_39 rfl (by decide) (Nat.le_of_ble_eq_true rfl) rfl ?_
      refine tm_goto X 2 dX0_comes_42 rfl ?_
      refine tm_lv X [1, 2, 0] rfl ?_
      exact hk2 (x2_1 + (1 : Int32)) h22
    · skip
      refine tm_ic_ne X 37 dX0_comes_30 rfl ?_ ?_
      · skip
        refine tm_iconst X (-1 : Int32) dX0_comes_37 (by decide) ?_
        exact hk38 (-1 : Int32)
      · skip
        refine tm_iconst X (0 : Int32) dX0_comes_33 (by decide) ?_
        refine tm_goto X 38 dX0_comes_34 rfl ?_
        exact hk38 (0 : Int32)
def mX0_free (h : Hp) (x1 : Int32) : Option (Int32 × Hp) :=
cl1 (mX0_within x1 (0 : Int32) (50 : Int32)) (fun r1 =>
nm (fun (s3 : Int32) (h4 : Hp) =>
some (s3, h4)) (fun k19 =>
if r1 = 0 then (
k19 (-1 : Int32) h) else (
cl2 (mX0_comes h x1) (fun r6 h7 =>
k19 r6 h7))))
theorem cyX0_free : Callee yX0_free 1 := by unfold Callee; decide +kernel
set_option maxHeartbeats 4000000 in
theorem ctX0_free (l : Launch) (D : va_G) (ad : Nat → Nat) (dA : Nat → ClassId) (tt : (Nat → Option Nat) × (Nat → Option Nat) × va_W) (h : Hp) (x1 : Int32) (r : Int32) (h' : Hp) (hm : mX0_free h x1 = some (r, h')) : CT l yX0_free cX0_free 2 (some .int) D dA 6 133 0 0 (wX ad dA tt h) [.ref (ad 100), .int x1] (some (.int r)) (wX ad dA tt h') := by
  refine ct_open (by decide) (Nat.le_of_ble_eq_true rfl) ?_
  intro G X hI hZ hV hR
  have hRet := hI rfl r rfl
  refine (show TM G (r, h') (mX0_free h x1) (wX ad dA tt h) 0 0 0 [(0, .ref (ad 100)), (1, .int x1)] [] from ?_) hm
  clear hm hI hZ hV hR
  unfold mX0_free
  refine tm_iload_n X 1 dX0_free_0 rfl rfl ?_
  refine tm_iconst X (0 : Int32) dX0_free_1 (by decide) ?_
  refine tm_bipush X (50 : Int32) dX0_free_2 (by decide) ?_
  refine tm_cl1 (fun r1 e2 => ?_)
  refine tm_callSi (As := [.int x1, .int (0 : Int32), .int (50 : Int32)]) (rest := []) X (ctX0_within l D dA x1 (0 : Int32) (50 : Int32) r1 e2) (lw_S q317 q318 q117 q319) cyX0_within rfl ⟨(Nat.le_of_ble_eq_true rfl), (Nat.le_of_ble_eq_true rfl)⟩ (Nat.le_of_ble_eq_true rfl) dX0_free_4 ⟨Nat.le_of_ble_eq_true rfl, Nat.le_of_ble_eq_true rfl⟩ rfl ?_
  refine tm_let (fun k => ∀ (s3 : Int32) (h4 : Hp), TM G (r, h') (k s3 h4) (wX ad dA tt h4) 0 0 19 [] [.int s3]) ?_ (fun k19 hk19 => ?_)
  · intro s3 h4
    exact tm_retIH (wf := wX ad dA tt) hRet dX0_free_19
  · skip
    refine tm_if_eq X 18 dX0_free_7 rfl ?_ ?_
    · skip
      refine tm_iconst X (-1 : Int32) dX0_free_18 (by decide) ?_
      refine tm_lv X [] rfl ?_
      exact hk19 (-1 : Int32) h
    · skip
      refine tm_aload_n X 0 dX0_free_10 rfl rfl ?_
      refine tm_iload_n X 1 dX0_free_11 rfl rfl ?_
      refine tm_cl2 (fun r6 h7 e5 => ?_)
      refine tm_callVi (As := [.int x1]) (rest := []) (q0 := 0) X (ctX0_comes l D ad dA tt h x1 r6 h7 e5) (lw_V q866 q868 qs24 q117 q869) cyX0_comes rfl rfl rfl ⟨(Nat.le_of_ble_eq_true rfl), (Nat.le_of_ble_eq_true rfl)⟩ (Nat.le_of_ble_eq_true rfl) dX0_free_12 ⟨Nat.le_of_ble_eq_true rfl, Nat.le_of_ble_eq_true rfl⟩ rfl ?_
      refine tm_goto X 19 dX0_free_15 rfl ?_
      refine tm_lv X [] rfl ?_
      exact hk19 r6 h7
def mX0_laysHighest (h : Hp)  : Option (Hp) :=
fx FU (fun _ _ => none) (fun k2 (x1_1 : Int32) (h2 : Hp) =>
if (63 : Int32) ≤ x1_1 then (
fx FU (fun _ _ => none) (fun k42 (x1_3 : Int32) (h4 : Hp) =>
if x1_3 = 0 then (
some h4) else (
fx FU (fun _ _ _ => none) (fun k50 (x1_5 : Int32) (x2_6 : Int32) (h7 : Hp) =>
if (63 : Int32) ≤ x2_6 then (
k42 x1_5 h7) else (
fx FU (fun _ _ _ => none) (fun k58 (x1_8 : Int32) (x3_9 : Int32) (h10 : Hp) =>
if (4 : Int32) ≤ x3_9 then (
k50 x1_8 (x2_6 + (1 : Int32)) h10) else (
cl1 (mX0_stepped x2_6 x3_9) (fun r11 =>
nm (fun (x1_13 : Int32) (h14 : Hp) =>
k58 x1_13 (x3_9 + (1 : Int32)) h14) (fun k134 =>
if r11 = (-1 : Int32) then (
k134 x1_8 h10) else (
ck x2_6 63 (
cl1 (mX3_opening 40 h10 r11) (fun r16 =>
ck r11 63 (
if (jmax (h10 15 x2_6.toNatClampNeg) r16) < (h10 15 r11.toNatClampNeg) then (
ck x2_6 63 (
cl1 (mX3_opening 40 h10 r11) (fun r18 =>
ck r11 63 (nm (u2 h10 15 r11.toNatClampNeg (jmax (h10 15 x2_6.toNatClampNeg) r18)) (fun h19 =>
k134 (1 : Int32) h19))))) else (
k134 x1_8 h10))))))))) x1_5 (0 : Int32) h7)) (0 : Int32) (0 : Int32) h4)) (1 : Int32) h2) else (
nm (fun (s20 : Int32) =>
ck x1_1 63 (nm (u2 h2 15 x1_1.toNatClampNeg s20) (fun h21 =>
k2 (x1_1 + (1 : Int32)) h21))) (fun k33 =>
if x1_1 = (31 : Int32) then (
cl1 (mX3_opening 40 h2 (31 : Int32)) (fun r23 =>
k33 r23)) else (
k33 (268435456 : Int32))))) (0 : Int32) h
theorem cyX0_laysHighest : Callee yX0_laysHighest 0 := by unfold Callee; decide +kernel
set_option maxHeartbeats 4000000 in
theorem ctX0_laysHighest (l : Launch) (D : va_G) (ad : Nat → Nat) (dA : Nat → ClassId) (tt : (Nat → Option Nat) × (Nat → Option Nat) × va_W) (h : Hp)  (h' : Hp) (hm : mX0_laysHighest h = some h') : CT l yX0_laysHighest cX0_laysHighest 5 none D dA 5 108 0 0 (wX ad dA tt h) [.ref (ad 100)] none (wX ad dA tt h') := by
  refine ct_open (by decide) (Nat.le_of_ble_eq_true rfl) ?_
  intro G X hI hZ hV hR
  have hRet := hV rfl rfl
  refine (show TM G h' (mX0_laysHighest h) (wX ad dA tt h) 0 0 0 [(0, .ref (ad 100))] [] from ?_) hm
  clear hm hI hZ hV hR
  unfold mX0_laysHighest
  refine tm_iconst X (0 : Int32) dX0_laysHighest_0 (by decide) ?_
  refine tm_istore_n X [(1, .int (0 : Int32)), (0, .ref (ad 100))] dX0_laysHighest_1 rfl (Nat.le_of_ble_eq_true rfl) rfl ?_
  refine tm_lv X [1, 0] rfl ?_
  refine fx_P (fun (k : Int32 → Hp → Option (Hp)) => ∀ (x1_1 : Int32) (h2 : Hp), TM G h' (k x1_1 h2) (wX ad dA tt h2) 0 0 2 [(0, .ref (ad 100)), (1, .int x1_1)] []) (fun _ _ => tm_none) (fun k2 hk2 x1_1 h2 => ?_) FU (0 : Int32) h
  refine tm_iload_n X 1 dX0_laysHighest_2 rfl rfl ?_
  refine tm_bipush X (63 : Int32) dX0_laysHighest_3 (by decide) ?_
  refine tm_ic_ge X 40 dX0_laysHighest_5 rfl ?_ ?_
  · skip
    refine tm_iconst X (1 : Int32) dX0_laysHighest_40 (by decide) ?_
    refine tm_istore_n X [(1, .int (1 : Int32)), (0, .ref (ad 100))] dX0_laysHighest_41 rfl (Nat.le_of_ble_eq_true rfl) rfl ?_
    refine tm_lv X [1, 0] rfl ?_
    refine fx_P (fun (k : Int32 → Hp → Option (Hp)) => ∀ (x1_3 : Int32) (h4 : Hp), TM G h' (k x1_3 h4) (wX ad dA tt h4) 0 0 42 [(0, .ref (ad 100)), (1, .int x1_3)] []) (fun _ _ => tm_none) (fun k42 hk42 x1_3 h4 => ?_) FU (1 : Int32) h2
    refine tm_iload_n X 1 dX0_laysHighest_42 rfl rfl ?_
    refine tm_if_eq X 149 dX0_laysHighest_43 rfl ?_ ?_
    · skip
      exact tm_retV (wf := wX ad dA tt) hRet dX0_laysHighest_149
    · skip
      refine tm_iconst X (0 : Int32) dX0_laysHighest_46 (by decide) ?_
      refine tm_istore_n X [(1, .int (0 : Int32)), (0, .ref (ad 100))] dX0_laysHighest_47 rfl (Nat.le_of_ble_eq_true rfl) rfl ?_
      refine tm_iconst X (0 : Int32) dX0_laysHighest_48 (by decide) ?_
      refine tm_istore_n X [(2, .int (0 : Int32)), (1, .int (0 : Int32)), (0, .ref (ad 100))] dX0_laysHighest_49 rfl (Nat.le_of_ble_eq_true rfl) rfl ?_
      refine tm_lv X [2, 1, 0] rfl ?_
      refine fx_P (fun (k : Int32 → Int32 → Hp → Option (Hp)) => ∀ (x1_5 : Int32) (x2_6 : Int32) (h7 : Hp), TM G h' (k x1_5 x2_6 h7) (wX ad dA tt h7) 0 0 50 [(0, .ref (ad 100)), (1, .int x1_5), (2, .int x2_6)] []) (fun _ _ _ => tm_none) (fun k50 hk50 x1_5 x2_6 h7 => ?_) FU (0 : Int32) (0 : Int32) h4
      refine tm_iload_n X 2 dX0_laysHighest_50 rfl rfl ?_
      refine tm_bipush X (63 : Int32) dX0_laysHighest_51 (by decide) ?_
      refine tm_ic_ge X 146 dX0_laysHighest_53 rfl ?_ ?_
      · skip
        refine tm_goto X 42 dX0_laysHighest_146 rfl ?_
        refine tm_lv X [0, 1] rfl ?_
        exact hk42 x1_5 h7
      · skip
        refine tm_iconst X (0 : Int32) dX0_laysHighest_56 (by decide) ?_
        refine tm_istore_n X [(3, .int (0 : Int32)), (0, .ref (ad 100)), (1, .int x1_5), (2, .int x2_6)] dX0_laysHighest_57 rfl (Nat.le_of_ble_eq_true rfl) rfl ?_
        refine tm_lv X [1, 2, 3, 0] rfl ?_
        refine fx_P (fun (k : Int32 → Int32 → Hp → Option (Hp)) => ∀ (x1_8 : Int32) (x3_9 : Int32) (h10 : Hp), TM G h' (k x1_8 x3_9 h10) (wX ad dA tt h10) 0 0 58 [(0, .ref (ad 100)), (1, .int x1_8), (2, .int x2_6), (3, .int x3_9)] []) (fun _ _ _ => tm_none) (fun k58 hk58 x1_8 x3_9 h10 => ?_) FU x1_5 (0 : Int32) h7
        refine tm_iload_n X 3 dX0_laysHighest_58 rfl rfl ?_
        refine tm_iconst X (4 : Int32) dX0_laysHighest_59 (by decide) ?_
        refine tm_ic_ge X 140 dX0_laysHighest_60 rfl ?_ ?_
        · skip
          refine tm_iinc (v := (1 : Int32)) X 2 [(2, .int (x2_6 + (1 : Int32))), (0, .ref (ad 100)), (1, .int x1_8), (3, .int x3_9)] dX0_laysHighest_140 rfl (by decide) (Nat.le_of_ble_eq_true rfl) rfl ?_
          refine tm_goto X 50 dX0_laysHighest_143 rfl ?_
          refine tm_lv X [1, 2, 0] rfl ?_
          exact hk50 x1_8 (x2_6 + (1 : Int32)) h10
        · skip
          refine tm_iload_n X 2 dX0_laysHighest_63 rfl rfl ?_
          refine tm_iload_n X 3 dX0_laysHighest_64 rfl rfl ?_
          refine tm_cl1 (fun r11 e12 => ?_)
          refine tm_callSi (As := [.int x2_6, .int x3_9]) (rest := []) X (ctX0_stepped l D dA x2_6 x3_9 r11 e12) (lw_S q795 q796 q117 q797) cyX0_stepped rfl ⟨(Nat.le_of_ble_eq_true rfl), (Nat.le_of_ble_eq_true rfl)⟩ (Nat.le_of_ble_eq_true rfl) dX0_laysHighest_65 ⟨Nat.le_of_ble_eq_true rfl, Nat.le_of_ble_eq_true rfl⟩ rfl ?_
          refine tm_istore X [(4, .int r11), (0, .ref (ad 100)), (1, .int x1_8), (2, .int x2_6), (3, .int x3_9)] dX0_laysHighest_68 (Nat.le_of_ble_eq_true rfl) rfl ?_
          refine tm_iload X 0 dX0_laysHighest_70 rfl ?_
          refine tm_iconst X (-1 : Int32) dX0_laysHighest_72 (by decide) ?_
          refine tm_let (fun k => ∀ (x1_13 : Int32) (h14 : Hp), TM G h' (k x1_13 h14) (wX ad dA tt h14) 0 0 134 [(0, .ref (ad 100)), (1, .int x1_13), (2, .int x2_6), (3, .int x3_9)] []) ?_ (fun k134 hk134 => ?_)
          · intro x1_13 h14
            refine tm_iinc (v := (1 : Int32)) X 3 [(3, .int (x3_9 + (1 : Int32))), (0, .ref (ad 100)), (1, .int x1_13), (2, .int x2_6)] dX0_laysHighest_134 rfl (by decide) (Nat.le_of_ble_eq_true rfl) rfl ?_
            refine tm_goto X 58 dX0_laysHighest_137 rfl ?_
            refine tm_lv X [1, 2, 3, 0] rfl ?_
            exact hk58 x1_13 (x3_9 + (1 : Int32)) h14
          · skip
            refine tm_ic_eq X 134 dX0_laysHighest_73 rfl ?_ ?_
            · skip
              refine tm_lv X [1, 2, 3, 4] rfl ?_
              exact hk134 x1_8 h10
            · skip
              refine tm_aload_n X 1 dX0_laysHighest_76 rfl rfl ?_
              refine tm_getR X (frX_100_15 ad dA tt h10) in_X0 rfl (Nat.le_of_ble_eq_true rfl) q255 rfl dX0_laysHighest_77 ?_
              refine tm_iload_n X 3 dX0_laysHighest_80 rfl rfl ?_
              refine tm_iaload X (arX_15 ad dA tt) dX0_laysHighest_81 ?_
              refine tm_aload_n X 1 dX0_laysHighest_82 rfl rfl ?_
              refine tm_getR X (frX_100_5 ad dA tt h10) in_X0 rfl (Nat.le_of_ble_eq_true rfl) q242 rfl dX0_laysHighest_83 ?_
              refine tm_iload X 0 dX0_laysHighest_86 rfl ?_
              refine tm_cl1 (fun r16 e15 => ?_)
              refine tm_callVi (As := [.int r11]) (rest := [.int (h10 15 x2_6.toNatClampNeg)]) (q0 := 3) X (ctX3_opening_40 l D ad dA tt h10 r11 r16 e15) (lw_V q833 q819 q820 q120 q821) cyX3_opening rfl rfl rfl ⟨(Nat.le_of_ble_eq_true rfl), (Nat.le_of_ble_eq_true rfl)⟩ (Nat.le_of_ble_eq_true rfl) dX0_laysHighest_88 ⟨Nat.le_of_ble_eq_true rfl, Nat.le_of_ble_eq_true rfl⟩ rfl ?_
              refine tm_mmax X q878 (Nat.le_of_ble_eq_true rfl) (Nat.le_of_ble_eq_true rfl) ⟨Nat.le_of_ble_eq_true rfl, Nat.le_of_ble_eq_true rfl⟩ dX0_laysHighest_91 ?_
              refine tm_aload_n X 1 dX0_laysHighest_94 rfl rfl ?_
              refine tm_getR X (frX_100_15 ad dA tt h10) in_X0 rfl (Nat.le_of_ble_eq_true rfl) q255 rfl dX0_laysHighest_95 ?_
              refine tm_iload X 0 dX0_laysHighest_98 rfl ?_
              refine tm_iaload X (arX_15 ad dA tt) dX0_laysHighest_100 ?_
              refine tm_ic_lt X 107 dX0_laysHighest_101 rfl ?_ ?_
              · skip
                refine tm_aload_n X 1 dX0_laysHighest_107 rfl rfl ?_
                refine tm_getR X (frX_100_15 ad dA tt h10) in_X0 rfl (Nat.le_of_ble_eq_true rfl) q255 rfl dX0_laysHighest_108 ?_
                refine tm_iload X 0 dX0_laysHighest_111 rfl ?_
                refine tm_aload_n X 1 dX0_laysHighest_113 rfl rfl ?_
                refine tm_getR X (frX_100_15 ad dA tt h10) in_X0 rfl (Nat.le_of_ble_eq_true rfl) q255 rfl dX0_laysHighest_114 ?_
                refine tm_iload_n X 3 dX0_laysHighest_117 rfl rfl ?_
                refine tm_iaload X (arX_15 ad dA tt) dX0_laysHighest_118 ?_
                refine tm_aload_n X 1 dX0_laysHighest_119 rfl rfl ?_
                refine tm_getR X (frX_100_5 ad dA tt h10) in_X0 rfl (Nat.le_of_ble_eq_true rfl) q242 rfl dX0_laysHighest_120 ?_
                refine tm_iload X 0 dX0_laysHighest_123 rfl ?_
                refine tm_cl1 (fun r18 e17 => ?_)
                refine tm_callVi (As := [.int r11]) (rest := [.int (h10 15 x2_6.toNatClampNeg), .int r11, .ref (ad 15)]) (q0 := 3) X (ctX3_opening_40 l D ad dA tt h10 r11 r18 e17) (lw_V q833 q819 q820 q120 q821) cyX3_opening rfl rfl rfl ⟨(Nat.le_of_ble_eq_true rfl), (Nat.le_of_ble_eq_true rfl)⟩ (Nat.le_of_ble_eq_true rfl) dX0_laysHighest_125 ⟨Nat.le_of_ble_eq_true rfl, Nat.le_of_ble_eq_true rfl⟩ rfl ?_
                refine tm_mmax X q878 (Nat.le_of_ble_eq_true rfl) (Nat.le_of_ble_eq_true rfl) ⟨Nat.le_of_ble_eq_true rfl, Nat.le_of_ble_eq_true rfl⟩ dX0_laysHighest_128 ?_
                refine tm_iastore X (arX_15 ad dA tt) dX0_laysHighest_131 (fun h19 => ?_)
                refine tm_iconst X (1 : Int32) dX0_laysHighest_132 (by decide) ?_
                refine tm_istore_n X [(1, .int (1 : Int32)), (4, .int r11), (0, .ref (ad 100)), (2, .int x2_6), (3, .int x3_9)] dX0_laysHighest_133 rfl (Nat.le_of_ble_eq_true rfl) rfl ?_
                refine tm_lv X [2, 0, 3, 4] rfl ?_
                exact hk134 (1 : Int32) h19
              · skip
                refine tm_goto X 134 dX0_laysHighest_104 rfl ?_
                refine tm_lv X [1, 2, 3, 4] rfl ?_
                exact hk134 x1_8 h10
  · skip
    refine tm_aload_n X 0 dX0_laysHighest_8 rfl rfl ?_
    refine tm_getR X (frX_100_15 ad dA tt h2) in_X0 rfl (Nat.le_of_ble_eq_true rfl) q255 rfl dX0_laysHighest_9 ?_
    refine tm_iload_n X 1 dX0_laysHighest_12 rfl rfl ?_
    refine tm_iload_n X 1 dX0_laysHighest_13 rfl rfl ?_
    refine tm_bipush X (31 : Int32) dX0_laysHighest_14 (by decide) ?_
    refine tm_let (fun k => ∀ (s20 : Int32), TM G h' (k s20) (wX ad dA tt h2) 0 0 33 [(0, .ref (ad 100)), (1, .int x1_1)] [.int s20, .int x1_1, .ref (ad 15)]) ?_ (fun k33 hk33 => ?_)
    · intro s20
      refine tm_iastore X (arX_15 ad dA tt) dX0_laysHighest_33 (fun h21 => ?_)
      refine tm_iinc (v := (1 : Int32)) X 1 [(1, .int (x1_1 + (1 : Int32))), (0, .ref (ad 100))] dX0_laysHighest_34 rfl (by decide) (Nat.le_of_ble_eq_true rfl) rfl ?_
      refine tm_goto X 2 dX0_laysHighest_37 rfl ?_
      refine tm_lv X [1, 0] rfl ?_
      exact hk2 (x1_1 + (1 : Int32)) h21
    · skip
      refine tm_ic_ne X 31 dX0_laysHighest_16 rfl ?_ ?_
      · skip
        refine tm_ldc X (268435456 : Int32) q847 dX0_laysHighest_31 ?_
        exact hk33 (268435456 : Int32)
      · skip
        refine tm_aload_n X 0 dX0_laysHighest_19 rfl rfl ?_
        refine tm_getR X (frX_100_5 ad dA tt h2) in_X0 rfl (Nat.le_of_ble_eq_true rfl) q242 rfl dX0_laysHighest_20 ?_
        refine tm_bipush X (31 : Int32) dX0_laysHighest_23 (by decide) ?_
        refine tm_cl1 (fun r23 e22 => ?_)
        refine tm_callVi (As := [.int (31 : Int32)]) (rest := [.int x1_1, .ref (ad 15)]) (q0 := 3) X (ctX3_opening_40 l D ad dA tt h2 (31 : Int32) r23 e22) (lw_V q833 q819 q820 q120 q821) cyX3_opening rfl rfl rfl ⟨(Nat.le_of_ble_eq_true rfl), (Nat.le_of_ble_eq_true rfl)⟩ (Nat.le_of_ble_eq_true rfl) dX0_laysHighest_25 ⟨Nat.le_of_ble_eq_true rfl, Nat.le_of_ble_eq_true rfl⟩ rfl ?_
        refine tm_goto X 33 dX0_laysHighest_28 rfl ?_
        exact hk33 r23
