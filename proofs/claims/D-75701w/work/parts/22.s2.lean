set_option maxRecDepth 100000
theorem cyX17_all : Callee yX17_all 0 := by unfold Callee; decide +kernel
def mX17_rounds (F : Hp → Option Hp) (h : Hp)  : Option (Hp) :=
nm (fun (h1 : Hp) =>
cl1 (mX15_goesOn 85 h1) (fun h3 =>
nm (u2 h3 85 7 ((h3 85 7) + (1 : Int32))) (fun h4 =>
cl1 (F h4) (fun h6 =>
cl1 (mX15_isGood 85 h6) (fun r8 =>
nm (fun (h9 : Hp) =>
cl1 (mX15_goesOn 85 h9) (fun h11 =>
nm (u2 h11 85 7 ((h11 85 7) - (1 : Int32))) (fun h12 =>
some h12))) (fun k60 =>
if r8 = 0 then (
k60 h6) else (
cl1 (mX15_here 85 h6) (fun r14 =>
if r14 = (41 : Int32) then (
k60 h6) else (
cl1 (mX15_place 85 h6) (fun r16 =>
cl1 (mX15_bad 85 h6 (1 : Int32) r16) (fun h18 =>
k60 h18))))))))))) (fun k17 =>
if (h 85 7) = (2 : Int32) then (
cl1 (mX15_place 85 h) (fun r20 =>
cl1 (mX15_bad 85 h (5 : Int32) r20) (fun h22 =>
k17 h22))) else (
k17 h))
theorem cyX17_rounds : Callee yX17_rounds 0 := by unfold Callee; decide +kernel
set_option maxHeartbeats 4000000 in
theorem ctX17_rounds (F : Hp → Option Hp) (fr lo : Nat) (l : Launch) (D : va_G) (ad ac : Nat → Nat) (dA : Nat → ClassId) (tt : (Nat → Option Nat) × (Nat → Option Nat) × va_W)  (hF : ∀ (h h' : Hp), F h = some h' → CT l yX17_all cX17_all 2 none D dA fr lo 0 0 (wXG ad ac dA tt h) [.ref (ac 85)] none (wXG ad ac dA tt h')) (h : Hp)  (h' : Hp) (hm : mX17_rounds F h = some h') : CT l yX17_rounds cX17_rounds 1 none D dA (fr + 1) (lo + 22) 0 0 (wXG ad ac dA tt h) [.ref (ac 85)] none (wXG ad ac dA tt h') := by
  refine ct_open (by decide) (Nat.le_of_ble_eq_true rfl) ?_
  intro G X hI hZ hV hR
  have hRet := hV rfl rfl
  refine (show TM G h' (mX17_rounds F h) (wXG ad ac dA tt h) 0 0 0 [(0, .ref (ac 85))] [] from ?_) hm
  clear hm hI hZ hV hR
  unfold mX17_rounds
  refine tm_aload_n X 0 dX17_rounds_0 rfl rfl ?_
  refine tm_getI X (fiXG_85_7 ad ac dA tt) in_X17 rfl (Nat.le_of_ble_eq_true rfl) q737 rfl dX17_rounds_1 ?_
  refine tm_iconst X (2 : Int32) dX17_rounds_4 (by decide) ?_
  refine tm_let (fun k => ∀ (h1 : Hp), TM G h' (k h1) (wXG ad ac dA tt h1) 0 0 17 [(0, .ref (ac 85))] []) ?_ (fun k17 hk17 => ?_)
  · intro h1
    refine tm_aload_n X 0 dX17_rounds_17 rfl rfl ?_
    refine tm_cl1 (fun h3 e2 => ?_)
    refine tm_callUv (As := []) (rest := []) (q0 := (35 + tt.2.2.length + 0)) X (ctX15_goesOn_85 l D ad ac dA tt h1 h3 e2) rfl (lw_U q786 q787 q788 q674 q138 q675) cyX15_goesOn rfl (Classical.choose_spec (obXG_85 ad ac dA tt h1)) rfl ⟨by omega, by omega⟩ (Nat.le_of_ble_eq_true rfl) dX17_rounds_18 ⟨Nat.le_of_ble_eq_true rfl, Nat.le_of_ble_eq_true rfl⟩ rfl ?_
    refine tm_aload_n X 0 dX17_rounds_21 rfl rfl ?_
    refine tm_dup X dX17_rounds_22 rfl ?_
    refine tm_getI X (fiXG_85_7 ad ac dA tt) in_X17 rfl (Nat.le_of_ble_eq_true rfl) q737 rfl dX17_rounds_23 ?_
    refine tm_iconst X (1 : Int32) dX17_rounds_26 (by decide) ?_
    refine tm_iadd X dX17_rounds_27 ?_
    refine tm_putIA X (fiXG_85_7 ad ac dA tt) in_X17 rfl (Nat.le_of_ble_eq_true rfl) (apart17 D dA) rfl rfl q737 rfl dX17_rounds_28 (fun h4 => ?_)
    refine tm_aload_n X 0 dX17_rounds_31 rfl rfl ?_
    refine tm_cl1 (fun h6 e5 => ?_)
    refine tm_callVv (As := []) (rest := []) (q0 := (35 + tt.2.2.length + 0)) X (hF h4 h6 e5) (lw_V q757 q759 qs17 q140 q760) cyX17_all rfl (Classical.choose_spec (obXG_85 ad ac dA tt h4)) rfl ⟨by omega, by omega⟩ (Nat.le_of_ble_eq_true rfl) dX17_rounds_32 ⟨Nat.le_of_ble_eq_true rfl, Nat.le_of_ble_eq_true rfl⟩ rfl ?_
    refine tm_aload_n X 0 dX17_rounds_35 rfl rfl ?_
    refine tm_cl1 (fun r8 e7 => ?_)
    refine tm_callUi (As := []) (rest := []) (q0 := (35 + tt.2.2.length + 0)) X (ctX15_isGood_85 l D ad ac dA tt h6 r8 e7) rfl (lw_U q761 q762 q763 q680 q138 q681) cyX15_isGood rfl (Classical.choose_spec (obXG_85 ad ac dA tt h6)) rfl ⟨by omega, by omega⟩ (Nat.le_of_ble_eq_true rfl) dX17_rounds_36 ⟨Nat.le_of_ble_eq_true rfl, Nat.le_of_ble_eq_true rfl⟩ rfl ?_
    refine tm_let (fun k => ∀ (h9 : Hp), TM G h' (k h9) (wXG ad ac dA tt h9) 0 0 60 [(0, .ref (ac 85))] []) ?_ (fun k60 hk60 => ?_)
    · intro h9
      refine tm_aload_n X 0 dX17_rounds_60 rfl rfl ?_
      refine tm_cl1 (fun h11 e10 => ?_)
      refine tm_callUv (As := []) (rest := []) (q0 := (35 + tt.2.2.length + 0)) X (ctX15_goesOn_85 l D ad ac dA tt h9 h11 e10) rfl (lw_U q786 q787 q788 q674 q138 q675) cyX15_goesOn rfl (Classical.choose_spec (obXG_85 ad ac dA tt h9)) rfl ⟨by omega, by omega⟩ (Nat.le_of_ble_eq_true rfl) dX17_rounds_61 ⟨Nat.le_of_ble_eq_true rfl, Nat.le_of_ble_eq_true rfl⟩ rfl ?_
      refine tm_aload_n X 0 dX17_rounds_64 rfl rfl ?_
      refine tm_dup X dX17_rounds_65 rfl ?_
      refine tm_getI X (fiXG_85_7 ad ac dA tt) in_X17 rfl (Nat.le_of_ble_eq_true rfl) q737 rfl dX17_rounds_66 ?_
      refine tm_iconst X (1 : Int32) dX17_rounds_69 (by decide) ?_
      refine tm_isub X dX17_rounds_70 ?_
      refine tm_putIA X (fiXG_85_7 ad ac dA tt) in_X17 rfl (Nat.le_of_ble_eq_true rfl) (apart17 D dA) rfl rfl q737 rfl dX17_rounds_71 (fun h12 => ?_)
      exact tm_retV (wf := wXG ad ac dA tt) hRet dX17_rounds_74
    · skip
      refine tm_if_eq X 60 dX17_rounds_39 rfl ?_ ?_
      · skip
        exact hk60 h6
      · skip
        refine tm_aload_n X 0 dX17_rounds_42 rfl rfl ?_
        refine tm_cl1 (fun r14 e13 => ?_)
        refine tm_callUi (As := []) (rest := []) (q0 := (35 + tt.2.2.length + 0)) X (ctX15_here_85 l D ad ac dA tt h6 r14 e13) rfl (lw_U q774 q775 q776 q656 q138 q657) cyX15_here rfl (Classical.choose_spec (obXG_85 ad ac dA tt h6)) rfl ⟨by omega, by omega⟩ (Nat.le_of_ble_eq_true rfl) dX17_rounds_43 ⟨Nat.le_of_ble_eq_true rfl, Nat.le_of_ble_eq_true rfl⟩ rfl ?_
        refine tm_bipush X (41 : Int32) dX17_rounds_46 (by decide) ?_
        refine tm_ic_eq X 60 dX17_rounds_48 rfl ?_ ?_
        · skip
          exact hk60 h6
        · skip
          refine tm_aload_n X 0 dX17_rounds_51 rfl rfl ?_
          refine tm_iconst X (1 : Int32) dX17_rounds_52 (by decide) ?_
          refine tm_aload_n X 0 dX17_rounds_53 rfl rfl ?_
          refine tm_cl1 (fun r16 e15 => ?_)
          refine tm_callUi (As := []) (rest := [.int (1 : Int32), .ref (ac 85)]) (q0 := (35 + tt.2.2.length + 0)) X (ctX15_place_85 l D ad ac dA tt h6 r16 e15) rfl (lw_U q768 q769 q770 q662 q138 q663) cyX15_place rfl (Classical.choose_spec (obXG_85 ad ac dA tt h6)) rfl ⟨by omega, by omega⟩ (Nat.le_of_ble_eq_true rfl) dX17_rounds_54 ⟨Nat.le_of_ble_eq_true rfl, Nat.le_of_ble_eq_true rfl⟩ rfl ?_
          refine tm_cl1 (fun h18 e17 => ?_)
          refine tm_callUv (As := [.int (1 : Int32), .int r16]) (rest := []) (q0 := (35 + tt.2.2.length + 0)) X (ctX15_bad_85 l D ad ac dA tt h6 (1 : Int32) r16 h18 e17) rfl (lw_U q783 q784 q785 q668 q138 q669) cyX15_bad rfl (Classical.choose_spec (obXG_85 ad ac dA tt h6)) rfl ⟨by omega, by omega⟩ (Nat.le_of_ble_eq_true rfl) dX17_rounds_57 ⟨Nat.le_of_ble_eq_true rfl, Nat.le_of_ble_eq_true rfl⟩ rfl ?_
          exact hk60 h18
  · skip
    refine tm_ic_ne X 17 dX17_rounds_5 rfl ?_ ?_
    · skip
      exact hk17 h
    · skip
      refine tm_aload_n X 0 dX17_rounds_8 rfl rfl ?_
      refine tm_iconst X (5 : Int32) dX17_rounds_9 (by decide) ?_
      refine tm_aload_n X 0 dX17_rounds_10 rfl rfl ?_
      refine tm_cl1 (fun r20 e19 => ?_)
      refine tm_callUi (As := []) (rest := [.int (5 : Int32), .ref (ac 85)]) (q0 := (35 + tt.2.2.length + 0)) X (ctX15_place_85 l D ad ac dA tt h r20 e19) rfl (lw_U q768 q769 q770 q662 q138 q663) cyX15_place rfl (Classical.choose_spec (obXG_85 ad ac dA tt h)) rfl ⟨by omega, by omega⟩ (Nat.le_of_ble_eq_true rfl) dX17_rounds_11 ⟨Nat.le_of_ble_eq_true rfl, Nat.le_of_ble_eq_true rfl⟩ rfl ?_
      refine tm_cl1 (fun h22 e21 => ?_)
      refine tm_callUv (As := [.int (5 : Int32), .int r20]) (rest := []) (q0 := (35 + tt.2.2.length + 0)) X (ctX15_bad_85 l D ad ac dA tt h (5 : Int32) r20 h22 e21) rfl (lw_U q783 q784 q785 q668 q138 q669) cyX15_bad rfl (Classical.choose_spec (obXG_85 ad ac dA tt h)) rfl ⟨by omega, by omega⟩ (Nat.le_of_ble_eq_true rfl) dX17_rounds_14 ⟨Nat.le_of_ble_eq_true rfl, Nat.le_of_ble_eq_true rfl⟩ rfl ?_
      exact hk17 h22
def mX17_one (F : Hp → Option Hp) (h : Hp)  : Option (Hp) :=
cl1 (mX15_place 85 h) (fun r2 =>
cl2 (mX15_times 85 h (57 : Int32)) (fun r4 h5 =>
nm ((h5 85 6)) (fun v6 =>
cl1 (mX15_here 85 h5) (fun r8 =>
nm (fun (s9 : Int32) =>
cl1 (mX15_here 85 h5) (fun r11 =>
nm (fun (h12 : Hp) =>
nm (((h12 85 6) - v6)) (fun v13 =>
cl1 (mX15_isGood 85 h12) (fun r15 =>
nm (fun (h16 : Hp) =>
fx FU (fun _ _ => none) (fun k155 (x6_17 : Int32) (h18 : Hp) =>
cl1 (mX15_isGood 85 h18) (fun r20 =>
nm (
some h18) (fun k208 =>
if r20 = 0 then (
k208) else (
if (v13 * r4) ≤ x6_17 then (
k208) else (
nz v13 (
nm ((v6 + (jrem x6_17 v13))) (fun v21 =>
ck v21 48 (
ck (h18 85 6) 48 (nm (u2 h18 86 (h18 85 6).toNatClampNeg (h18 86 v21.toNatClampNeg)) (fun h22 =>
nm (u2 h22 85 6 ((h22 85 6) + (1 : Int32))) (fun h23 =>
k155 (x6_17 + (1 : Int32)) h23))))))))))) v13 h16) (fun k151 =>
if r15 = 0 then (
k151 h12) else (
if (v6 + (v13 * r4)) ≤ (48 : Int32) then (
k151 h12) else (
cl1 (mX15_bad 85 h12 (6 : Int32) r2) (fun h25 =>
k151 h25))))))) (fun k118 =>
if r11 = (40 : Int32) then (
cl1 (F h5) (fun h37 =>
k118 h37)) else (
if 0 ≤ s9 then (
if ((h5 85 6) + r4) ≤ (48 : Int32) then (
ck (h5 85 6) 48 (nm (u2 h5 86 (h5 85 6).toNatClampNeg s9) (fun h26 =>
nm (u2 h26 85 6 ((h26 85 6) + (1 : Int32))) (fun h27 =>
cl1 (mX15_goesOn 85 h27) (fun h29 =>
k118 h29))))) else (
cl1 (mX15_bad 85 h5 (6 : Int32) r2) (fun h31 =>
k118 h31))) else (
cl1 (mX15_place 85 h5) (fun r33 =>
cl1 (mX15_bad 85 h5 (1 : Int32) r33) (fun h35 =>
k118 h35))))))) (fun k37 =>
if r8 = 0 then (
k37 (-1 : Int32)) else (
cl1 (mX15_here 85 h5) (fun r39 =>
cl1 (mJ0_indexOf_s2 r39) (fun r40 =>
k37 r40))))))))
theorem cyX17_one : Callee yX17_one 0 := by unfold Callee; decide +kernel
set_option maxHeartbeats 4000000 in
theorem ctX17_one (F : Hp → Option Hp) (fr lo : Nat) (l : Launch) (D : va_G) (ad ac : Nat → Nat) (dA : Nat → ClassId) (tt : (Nat → Option Nat) × (Nat → Option Nat) × va_W)  (hF : ∀ (h h' : Hp), F h = some h' → CT l yX17_rounds cX17_rounds 1 none D dA fr lo 0 0 (wXG ad ac dA tt h) [.ref (ac 85)] none (wXG ad ac dA tt h')) (h : Hp)  (h' : Hp) (hm : mX17_one F h = some h') : CT l yX17_one cX17_one 7 none D dA (fr + 4) (lo + 91) 0 0 (wXG ad ac dA tt h) [.ref (ac 85)] none (wXG ad ac dA tt h') := by
  refine ct_open (by decide) (Nat.le_of_ble_eq_true rfl) ?_
  intro G X hI hZ hV hR
  have hRet := hV rfl rfl
  refine (show TM G h' (mX17_one F h) (wXG ad ac dA tt h) 0 0 0 [(0, .ref (ac 85))] [] from ?_) hm
  clear hm hI hZ hV hR
  unfold mX17_one
  refine tm_aload_n X 0 dX17_one_0 rfl rfl ?_
  refine tm_cl1 (fun r2 e1 => ?_)
  refine tm_callUi (As := []) (rest := []) (q0 := (35 + tt.2.2.length + 0)) X (ctX15_place_85 l D ad ac dA tt h r2 e1) rfl (lw_U q768 q769 q770 q662 q138 q663) cyX15_place rfl (Classical.choose_spec (obXG_85 ad ac dA tt h)) rfl ⟨by omega, by omega⟩ (Nat.le_of_ble_eq_true rfl) dX17_one_1 ⟨Nat.le_of_ble_eq_true rfl, Nat.le_of_ble_eq_true rfl⟩ rfl ?_
  refine tm_istore_n X [(1, .int r2), (0, .ref (ac 85))] dX17_one_4 rfl (Nat.le_of_ble_eq_true rfl) rfl ?_
  refine tm_aload_n X 1 dX17_one_5 rfl rfl ?_
  refine tm_bipush X (57 : Int32) dX17_one_6 (by decide) ?_
  refine tm_cl2 (fun r4 h5 e3 => ?_)
  refine tm_callUi (As := [.int (57 : Int32)]) (rest := []) (q0 := (35 + tt.2.2.length + 0)) X (ctX15_times_85 l D ad ac dA tt h (57 : Int32) r4 h5 e3) rfl (lw_U q771 q772 q773 q700 q138 q701) cyX15_times rfl (Classical.choose_spec (obXG_85 ad ac dA tt h)) rfl ⟨by omega, by omega⟩ (Nat.le_of_ble_eq_true rfl) dX17_one_8 ⟨Nat.le_of_ble_eq_true rfl, Nat.le_of_ble_eq_true rfl⟩ rfl ?_
  refine tm_istore_n X [(2, .int r4), (1, .int r2), (0, .ref (ac 85))] dX17_one_11 rfl (Nat.le_of_ble_eq_true rfl) rfl ?_
  refine tm_aload_n X 2 dX17_one_12 rfl rfl ?_
  refine tm_getI X (fiXG_85_6 ad ac dA tt) in_X17 rfl (Nat.le_of_ble_eq_true rfl) q736 rfl dX17_one_13 ?_
  refine tm_nmI (fun v6 => ?_)
  refine tm_istore_n X [(3, .int v6), (2, .int r4), (1, .int r2), (0, .ref (ac 85))] dX17_one_16 rfl (Nat.le_of_ble_eq_true rfl) rfl ?_
  refine tm_aload_n X 3 dX17_one_17 rfl rfl ?_
  refine tm_cl1 (fun r8 e7 => ?_)
  refine tm_callUi (As := []) (rest := []) (q0 := (35 + tt.2.2.length + 0)) X (ctX15_here_85 l D ad ac dA tt h5 r8 e7) rfl (lw_U q774 q775 q776 q656 q138 q657) cyX15_here rfl (Classical.choose_spec (obXG_85 ad ac dA tt h5)) rfl ⟨by omega, by omega⟩ (Nat.le_of_ble_eq_true rfl) dX17_one_18 ⟨Nat.le_of_ble_eq_true rfl, Nat.le_of_ble_eq_true rfl⟩ rfl ?_
  refine tm_let (fun k => ∀ (s9 : Int32), TM G h' (k s9) (wXG ad ac dA tt h5) 0 0 37 [(0, .ref (ac 85)), (1, .int r2), (2, .int r4), (3, .int v6)] [.int s9]) ?_ (fun k37 hk37 => ?_)
  · intro s9
    refine tm_istore X [(4, .int s9), (0, .ref (ac 85)), (1, .int r2), (2, .int r4), (3, .int v6)] dX17_one_37 (Nat.le_of_ble_eq_true rfl) rfl ?_
    refine tm_aload_n X 1 dX17_one_39 rfl rfl ?_
    refine tm_cl1 (fun r11 e10 => ?_)
    refine tm_callUi (As := []) (rest := []) (q0 := (35 + tt.2.2.length + 0)) X (ctX15_here_85 l D ad ac dA tt h5 r11 e10) rfl (lw_U q774 q775 q776 q656 q138 q657) cyX15_here rfl (Classical.choose_spec (obXG_85 ad ac dA tt h5)) rfl ⟨by omega, by omega⟩ (Nat.le_of_ble_eq_true rfl) dX17_one_40 ⟨Nat.le_of_ble_eq_true rfl, Nat.le_of_ble_eq_true rfl⟩ rfl ?_
    refine tm_bipush X (40 : Int32) dX17_one_43 (by decide) ?_
    refine tm_let (fun k => ∀ (h12 : Hp), TM G h' (k h12) (wXG ad ac dA tt h12) 0 0 118 [(0, .ref (ac 85)), (1, .int r2), (2, .int r4), (3, .int v6)] []) ?_ (fun k118 hk118 => ?_)
    · intro h12
      refine tm_aload_n X 0 dX17_one_118 rfl rfl ?_
      refine tm_getI X (fiXG_85_6 ad ac dA tt) in_X17 rfl (Nat.le_of_ble_eq_true rfl) q736 rfl dX17_one_119 ?_
      refine tm_iload_n X 3 dX17_one_122 rfl rfl ?_
      refine tm_isub X dX17_one_123 ?_
      refine tm_nmI (fun v13 => ?_)
      refine tm_istore X [(5, .int v13), (0, .ref (ac 85)), (1, .int r2), (2, .int r4), (3, .int v6)] dX17_one_124 (Nat.le_of_ble_eq_true rfl) rfl ?_
      refine tm_aload_n X 1 dX17_one_126 rfl rfl ?_
      refine tm_cl1 (fun r15 e14 => ?_)
      refine tm_callUi (As := []) (rest := []) (q0 := (35 + tt.2.2.length + 0)) X (ctX15_isGood_85 l D ad ac dA tt h12 r15 e14) rfl (lw_U q761 q762 q763 q680 q138 q681) cyX15_isGood rfl (Classical.choose_spec (obXG_85 ad ac dA tt h12)) rfl ⟨by omega, by omega⟩ (Nat.le_of_ble_eq_true rfl) dX17_one_127 ⟨Nat.le_of_ble_eq_true rfl, Nat.le_of_ble_eq_true rfl⟩ rfl ?_
      refine tm_let (fun k => ∀ (h16 : Hp), TM G h' (k h16) (wXG ad ac dA tt h16) 0 0 151 [(0, .ref (ac 85)), (2, .int r4), (3, .int v6), (5, .int v13)] []) ?_ (fun k151 hk151 => ?_)
      · intro h16
        refine tm_iload X 3 dX17_one_151 rfl ?_
        refine tm_istore X [(6, .int v13), (0, .ref (ac 85)), (2, .int r4), (3, .int v6), (5, .int v13)] dX17_one_153 (Nat.le_of_ble_eq_true rfl) rfl ?_
        refine tm_lv X [1, 2, 3, 4, 0] rfl ?_
        refine fx_P (fun (k : Int32 → Hp → Option (Hp)) => ∀ (x6_17 : Int32) (h18 : Hp), TM G h' (k x6_17 h18) (wXG ad ac dA tt h18) 0 0 155 [(0, .ref (ac 85)), (2, .int r4), (3, .int v6), (5, .int v13), (6, .int x6_17)] []) (fun _ _ => tm_none) (fun k155 hk155 x6_17 h18 => ?_) FU v13 h16
        refine tm_aload_n X 0 dX17_one_155 rfl rfl ?_
        refine tm_cl1 (fun r20 e19 => ?_)
        refine tm_callUi (As := []) (rest := []) (q0 := (35 + tt.2.2.length + 0)) X (ctX15_isGood_85 l D ad ac dA tt h18 r20 e19) rfl (lw_U q761 q762 q763 q680 q138 q681) cyX15_isGood rfl (Classical.choose_spec (obXG_85 ad ac dA tt h18)) rfl ⟨by omega, by omega⟩ (Nat.le_of_ble_eq_true rfl) dX17_one_156 ⟨Nat.le_of_ble_eq_true rfl, Nat.le_of_ble_eq_true rfl⟩ rfl ?_
        refine tm_let (fun k => TM G h' k (wXG ad ac dA tt h18) 0 0 208 [] []) ?_ (fun k208 hk208 => ?_)
        · skip
          exact tm_retV (wf := wXG ad ac dA tt) hRet dX17_one_208
        · skip
          refine tm_if_eq X 208 dX17_one_159 rfl ?_ ?_
          · skip
            refine tm_lv X [] rfl ?_
            exact hk208
          · skip
            refine tm_iload X 4 dX17_one_162 rfl ?_
            refine tm_iload X 3 dX17_one_164 rfl ?_
            refine tm_iload_n X 1 dX17_one_166 rfl rfl ?_
            refine tm_imul X dX17_one_167 ?_
            refine tm_ic_ge X 208 dX17_one_168 rfl ?_ ?_
            · skip
              refine tm_lv X [] rfl ?_
              exact hk208
            · skip
              refine tm_aload_n X 0 dX17_one_171 rfl rfl ?_
              refine tm_getR X (frXG_85_5 ad ac dA tt h18) in_X17 rfl (Nat.le_of_ble_eq_true rfl) q734 rfl dX17_one_172 ?_
              refine tm_aload_n X 0 dX17_one_175 rfl rfl ?_
              refine tm_getI X (fiXG_85_6 ad ac dA tt) in_X17 rfl (Nat.le_of_ble_eq_true rfl) q736 rfl dX17_one_176 ?_
              refine tm_aload_n X 0 dX17_one_179 rfl rfl ?_
              refine tm_getR X (frXG_85_5 ad ac dA tt h18) in_X17 rfl (Nat.le_of_ble_eq_true rfl) q734 rfl dX17_one_180 ?_
              refine tm_iload_n X 2 dX17_one_183 rfl rfl ?_
              refine tm_iload X 4 dX17_one_184 rfl ?_
              refine tm_iload X 3 dX17_one_186 rfl ?_
              refine tm_iremz X dX17_one_188 ?_
              refine tm_iadd X dX17_one_189 ?_
              refine tm_nmI (fun v21 => ?_)
              refine tm_iaload X (arXG_86 ad ac dA tt) dX17_one_190 ?_
              refine tm_iastore X (arXG_86 ad ac dA tt) dX17_one_191 (fun h22 => ?_)
              refine tm_aload_n X 0 dX17_one_192 rfl rfl ?_
              refine tm_dup X dX17_one_193 rfl ?_
              refine tm_getI X (fiXG_85_6 ad ac dA tt) in_X17 rfl (Nat.le_of_ble_eq_true rfl) q736 rfl dX17_one_194 ?_
              refine tm_iconst X (1 : Int32) dX17_one_197 (by decide) ?_
              refine tm_iadd X dX17_one_198 ?_
              refine tm_putIA X (fiXG_85_6 ad ac dA tt) in_X17 rfl (Nat.le_of_ble_eq_true rfl) (apart17 D dA) rfl rfl q736 rfl dX17_one_199 (fun h23 => ?_)
              refine tm_iinc (v := (1 : Int32)) X 4 [(6, .int (x6_17 + (1 : Int32))), (0, .ref (ac 85)), (2, .int r4), (3, .int v6), (5, .int v13)] dX17_one_202 rfl (by decide) (Nat.le_of_ble_eq_true rfl) rfl ?_
              refine tm_goto X 155 dX17_one_205 rfl ?_
              refine tm_lv X [1, 2, 3, 4, 0] rfl ?_
              exact hk155 (x6_17 + (1 : Int32)) h23
      · skip
        refine tm_if_eq X 151 dX17_one_130 rfl ?_ ?_
        · skip
          refine tm_lv X [1, 3, 4, 0] rfl ?_
          exact hk151 h12
        · skip
          refine tm_iload_n X 4 dX17_one_133 rfl rfl ?_
          refine tm_iload X 0 dX17_one_134 rfl ?_
          refine tm_iload_n X 3 dX17_one_136 rfl rfl ?_
          refine tm_imul X dX17_one_137 ?_
          refine tm_iadd X dX17_one_138 ?_
          refine tm_bipush X (48 : Int32) dX17_one_139 (by decide) ?_
          refine tm_ic_le X 151 dX17_one_141 rfl ?_ ?_
          · skip
            refine tm_lv X [1, 3, 4, 0] rfl ?_
            exact hk151 h12
          · skip
            refine tm_aload_n X 1 dX17_one_144 rfl rfl ?_
            refine tm_bipush X (6 : Int32) dX17_one_145 (by decide) ?_
            refine tm_iload_n X 2 dX17_one_147 rfl rfl ?_
            refine tm_cl1 (fun h25 e24 => ?_)
            refine tm_callUv (As := [.int (6 : Int32), .int r2]) (rest := []) (q0 := (35 + tt.2.2.length + 0)) X (ctX15_bad_85 l D ad ac dA tt h12 (6 : Int32) r2 h25 e24) rfl (lw_U q783 q784 q785 q668 q138 q669) cyX15_bad rfl (Classical.choose_spec (obXG_85 ad ac dA tt h12)) rfl ⟨by omega, by omega⟩ (Nat.le_of_ble_eq_true rfl) dX17_one_148 ⟨Nat.le_of_ble_eq_true rfl, Nat.le_of_ble_eq_true rfl⟩ rfl ?_
            refine tm_lv X [1, 3, 4, 0] rfl ?_
            exact hk151 h25
    · skip
      refine tm_ic_ne X 55 dX17_one_45 rfl ?_ ?_
      · skip
        refine tm_iload X 0 dX17_one_55 rfl ?_
        refine tm_if_ge X 72 dX17_one_57 rfl ?_ ?_
        · skip
          refine tm_aload_n X 1 dX17_one_72 rfl rfl ?_
          refine tm_getI X (fiXG_85_6 ad ac dA tt) in_X17 rfl (Nat.le_of_ble_eq_true rfl) q736 rfl dX17_one_73 ?_
          refine tm_iload_n X 3 dX17_one_76 rfl rfl ?_
          refine tm_iadd X dX17_one_77 ?_
          refine tm_bipush X (48 : Int32) dX17_one_78 (by decide) ?_
          refine tm_ic_le X 93 dX17_one_80 rfl ?_ ?_
          · skip
            refine tm_aload_n X 1 dX17_one_93 rfl rfl ?_
            refine tm_getR X (frXG_85_5 ad ac dA tt h5) in_X17 rfl (Nat.le_of_ble_eq_true rfl) q734 rfl dX17_one_94 ?_
            refine tm_aload_n X 1 dX17_one_97 rfl rfl ?_
            refine tm_getI X (fiXG_85_6 ad ac dA tt) in_X17 rfl (Nat.le_of_ble_eq_true rfl) q736 rfl dX17_one_98 ?_
            refine tm_iload X 0 dX17_one_101 rfl ?_
            refine tm_iastore X (arXG_86 ad ac dA tt) dX17_one_103 (fun h26 => ?_)
            refine tm_aload_n X 1 dX17_one_104 rfl rfl ?_
            refine tm_dup X dX17_one_105 rfl ?_
            refine tm_getI X (fiXG_85_6 ad ac dA tt) in_X17 rfl (Nat.le_of_ble_eq_true rfl) q736 rfl dX17_one_106 ?_
            refine tm_iconst X (1 : Int32) dX17_one_109 (by decide) ?_
            refine tm_iadd X dX17_one_110 ?_
            refine tm_putIA X (fiXG_85_6 ad ac dA tt) in_X17 rfl (Nat.le_of_ble_eq_true rfl) (apart17 D dA) rfl rfl q736 rfl dX17_one_111 (fun h27 => ?_)
            refine tm_aload_n X 1 dX17_one_114 rfl rfl ?_
            refine tm_cl1 (fun h29 e28 => ?_)
            refine tm_callUv (As := []) (rest := []) (q0 := (35 + tt.2.2.length + 0)) X (ctX15_goesOn_85 l D ad ac dA tt h27 h29 e28) rfl (lw_U q786 q787 q788 q674 q138 q675) cyX15_goesOn rfl (Classical.choose_spec (obXG_85 ad ac dA tt h27)) rfl ⟨by omega, by omega⟩ (Nat.le_of_ble_eq_true rfl) dX17_one_115 ⟨Nat.le_of_ble_eq_true rfl, Nat.le_of_ble_eq_true rfl⟩ rfl ?_
            refine tm_lv X [1, 2, 3, 4] rfl ?_
            exact hk118 h29
          · skip
            refine tm_aload_n X 1 dX17_one_83 rfl rfl ?_
            refine tm_bipush X (6 : Int32) dX17_one_84 (by decide) ?_
            refine tm_iload_n X 2 dX17_one_86 rfl rfl ?_
            refine tm_cl1 (fun h31 e30 => ?_)
            refine tm_callUv (As := [.int (6 : Int32), .int r2]) (rest := []) (q0 := (35 + tt.2.2.length + 0)) X (ctX15_bad_85 l D ad ac dA tt h5 (6 : Int32) r2 h31 e30) rfl (lw_U q783 q784 q785 q668 q138 q669) cyX15_bad rfl (Classical.choose_spec (obXG_85 ad ac dA tt h5)) rfl ⟨by omega, by omega⟩ (Nat.le_of_ble_eq_true rfl) dX17_one_87 ⟨Nat.le_of_ble_eq_true rfl, Nat.le_of_ble_eq_true rfl⟩ rfl ?_
            refine tm_goto X 118 dX17_one_90 rfl ?_
            refine tm_lv X [1, 2, 3, 4] rfl ?_
            exact hk118 h31
        · skip
          refine tm_aload_n X 1 dX17_one_60 rfl rfl ?_
          refine tm_iconst X (1 : Int32) dX17_one_61 (by decide) ?_
          refine tm_aload_n X 1 dX17_one_62 rfl rfl ?_
          refine tm_cl1 (fun r33 e32 => ?_)
          refine tm_callUi (As := []) (rest := [.int (1 : Int32), .ref (ac 85)]) (q0 := (35 + tt.2.2.length + 0)) X (ctX15_place_85 l D ad ac dA tt h5 r33 e32) rfl (lw_U q768 q769 q770 q662 q138 q663) cyX15_place rfl (Classical.choose_spec (obXG_85 ad ac dA tt h5)) rfl ⟨by omega, by omega⟩ (Nat.le_of_ble_eq_true rfl) dX17_one_63 ⟨Nat.le_of_ble_eq_true rfl, Nat.le_of_ble_eq_true rfl⟩ rfl ?_
          refine tm_cl1 (fun h35 e34 => ?_)
          refine tm_callUv (As := [.int (1 : Int32), .int r33]) (rest := []) (q0 := (35 + tt.2.2.length + 0)) X (ctX15_bad_85 l D ad ac dA tt h5 (1 : Int32) r33 h35 e34) rfl (lw_U q783 q784 q785 q668 q138 q669) cyX15_bad rfl (Classical.choose_spec (obXG_85 ad ac dA tt h5)) rfl ⟨by omega, by omega⟩ (Nat.le_of_ble_eq_true rfl) dX17_one_66 ⟨Nat.le_of_ble_eq_true rfl, Nat.le_of_ble_eq_true rfl⟩ rfl ?_
          refine tm_goto X 118 dX17_one_69 rfl ?_
          refine tm_lv X [1, 2, 3, 4] rfl ?_
          exact hk118 h35
      · skip
        refine tm_aload_n X 1 dX17_one_48 rfl rfl ?_
        refine tm_cl1 (fun h37 e36 => ?_)
        refine tm_callVv (As := []) (rest := []) (q0 := (35 + tt.2.2.length + 0)) X (hF h5 h37 e36) (lw_V q779 q781 qs19 q140 q782) cyX17_rounds rfl (Classical.choose_spec (obXG_85 ad ac dA tt h5)) rfl ⟨by omega, by omega⟩ (Nat.le_of_ble_eq_true rfl) dX17_one_49 ⟨Nat.le_of_ble_eq_true rfl, Nat.le_of_ble_eq_true rfl⟩ rfl ?_
        refine tm_goto X 118 dX17_one_52 rfl ?_
        refine tm_lv X [1, 2, 3, 4] rfl ?_
        exact hk118 h37
  · skip
    refine tm_if_ne X 28 dX17_one_21 rfl ?_ ?_
    · skip
      refine tm_ldcS2 X rfl dX17_one_28 ?_
      refine tm_aload_n X 3 dX17_one_30 rfl rfl ?_
      refine tm_cl1 (fun r39 e38 => ?_)
      refine tm_callUi (As := []) (rest := [.ref (dA 12)]) (q0 := (35 + tt.2.2.length + 0)) X (ctX15_here_85 l D ad ac dA tt h5 r39 e38) rfl (lw_U q774 q775 q776 q656 q138 q657) cyX15_here rfl (Classical.choose_spec (obXG_85 ad ac dA tt h5)) rfl ⟨by omega, by omega⟩ (Nat.le_of_ble_eq_true rfl) dX17_one_31 ⟨Nat.le_of_ble_eq_true rfl, Nat.le_of_ble_eq_true rfl⟩ rfl ?_
      refine tm_cl1 (fun r40 e41 => ?_)
      refine tm_callVSi (i := 2) (As := [.int r39]) (rest := []) X (by decide) rfl rfl (ctJ0_indexOf_s2 l D dA r39 r40 e41) (lw_V q778 q385 q386 q124 q387) cyJ0_indexOf rfl ⟨by omega, by omega⟩ (Nat.le_of_ble_eq_true rfl) dX17_one_34 ⟨Nat.le_of_ble_eq_true rfl, Nat.le_of_ble_eq_true rfl⟩ rfl ?_
      refine tm_lv X [3, 2, 1, 0] rfl ?_
      exact hk37 r40
    · skip
      refine tm_iconst X (-1 : Int32) dX17_one_24 (by decide) ?_
      refine tm_goto X 37 dX17_one_25 rfl ?_
      refine tm_lv X [3, 2, 1, 0] rfl ?_
      exact hk37 (-1 : Int32)
def mX17_all (F : Hp → Option Hp) (h : Hp)  : Option (Hp) :=
cl1 (mX15_isGood 85 h) (fun r2 =>
fx FU (fun _ _ => none) (fun k5 (x1_3 : Int32) (h4 : Hp) =>
if x1_3 = 0 then (
some h4) else (
cl1 (F h4) (fun h6 =>
cl1 (mX15_isGood 85 h6) (fun r8 =>
nm (fun (s9 : Int32) =>
k5 s9 h6) (fun k41 =>
nm (
k41 (0 : Int32)) (fun k40 =>
if r8 = 0 then (
k40) else (
cl1 (mX15_isEnd 85 h6) (fun r11 =>
if r11 = 0 then (
cl1 (mX15_here 85 h6) (fun r13 =>
if r13 = (41 : Int32) then (
k40) else (
k41 (1 : Int32)))) else (
k40))))))))) r2 h)
set_option maxHeartbeats 4000000 in
theorem ctX17_all (F : Hp → Option Hp) (fr lo : Nat) (l : Launch) (D : va_G) (ad ac : Nat → Nat) (dA : Nat → ClassId) (tt : (Nat → Option Nat) × (Nat → Option Nat) × va_W)  (hF : ∀ (h h' : Hp), F h = some h' → CT l yX17_one cX17_one 7 none D dA fr lo 0 0 (wXG ad ac dA tt h) [.ref (ac 85)] none (wXG ad ac dA tt h')) (h : Hp)  (h' : Hp) (hm : mX17_all F h = some h') : CT l yX17_all cX17_all 2 none D dA (fr + 1) (lo + 26) 0 0 (wXG ad ac dA tt h) [.ref (ac 85)] none (wXG ad ac dA tt h') := by
  refine ct_open (by decide) (Nat.le_of_ble_eq_true rfl) ?_
  intro G X hI hZ hV hR
  have hRet := hV rfl rfl
  refine (show TM G h' (mX17_all F h) (wXG ad ac dA tt h) 0 0 0 [(0, .ref (ac 85))] [] from ?_) hm
  clear hm hI hZ hV hR
  unfold mX17_all
  refine tm_aload_n X 0 dX17_all_0 rfl rfl ?_
  refine tm_cl1 (fun r2 e1 => ?_)
  refine tm_callUi (As := []) (rest := []) (q0 := (35 + tt.2.2.length + 0)) X (ctX15_isGood_85 l D ad ac dA tt h r2 e1) rfl (lw_U q761 q762 q763 q680 q138 q681) cyX15_isGood rfl (Classical.choose_spec (obXG_85 ad ac dA tt h)) rfl ⟨by omega, by omega⟩ (Nat.le_of_ble_eq_true rfl) dX17_all_1 ⟨Nat.le_of_ble_eq_true rfl, Nat.le_of_ble_eq_true rfl⟩ rfl ?_
  refine tm_istore_n X [(1, .int r2), (0, .ref (ac 85))] dX17_all_4 rfl (Nat.le_of_ble_eq_true rfl) rfl ?_
  refine tm_lv X [1, 0] rfl ?_
  refine fx_P (fun (k : Int32 → Hp → Option (Hp)) => ∀ (x1_3 : Int32) (h4 : Hp), TM G h' (k x1_3 h4) (wXG ad ac dA tt h4) 0 0 5 [(0, .ref (ac 85)), (1, .int x1_3)] []) (fun _ _ => tm_none) (fun k5 hk5 x1_3 h4 => ?_) FU r2 h
  refine tm_iload_n X 1 dX17_all_5 rfl rfl ?_
  refine tm_if_eq X 45 dX17_all_6 rfl ?_ ?_
  · skip
    exact tm_retV (wf := wXG ad ac dA tt) hRet dX17_all_45
  · skip
    refine tm_aload_n X 0 dX17_all_9 rfl rfl ?_
    refine tm_cl1 (fun h6 e5 => ?_)
    refine tm_callVv (As := []) (rest := []) (q0 := (35 + tt.2.2.length + 0)) X (hF h4 h6 e5) (lw_V q764 q766 qs18 q140 q767) cyX17_one rfl (Classical.choose_spec (obXG_85 ad ac dA tt h4)) rfl ⟨by omega, by omega⟩ (Nat.le_of_ble_eq_true rfl) dX17_all_10 ⟨Nat.le_of_ble_eq_true rfl, Nat.le_of_ble_eq_true rfl⟩ rfl ?_
    refine tm_aload_n X 0 dX17_all_13 rfl rfl ?_
    refine tm_cl1 (fun r8 e7 => ?_)
    refine tm_callUi (As := []) (rest := []) (q0 := (35 + tt.2.2.length + 0)) X (ctX15_isGood_85 l D ad ac dA tt h6 r8 e7) rfl (lw_U q761 q762 q763 q680 q138 q681) cyX15_isGood rfl (Classical.choose_spec (obXG_85 ad ac dA tt h6)) rfl ⟨by omega, by omega⟩ (Nat.le_of_ble_eq_true rfl) dX17_all_14 ⟨Nat.le_of_ble_eq_true rfl, Nat.le_of_ble_eq_true rfl⟩ rfl ?_
    refine tm_let (fun k => ∀ (s9 : Int32), TM G h' (k s9) (wXG ad ac dA tt h6) 0 0 41 [(0, .ref (ac 85))] [.int s9]) ?_ (fun k41 hk41 => ?_)
    · intro s9
      refine tm_istore_n X [(1, .int s9), (0, .ref (ac 85))] dX17_all_41 rfl (Nat.le_of_ble_eq_true rfl) rfl ?_
      refine tm_goto X 5 dX17_all_42 rfl ?_
      refine tm_lv X [1, 0] rfl ?_
      exact hk5 s9 h6
    · skip
      refine tm_let (fun k => TM G h' k (wXG ad ac dA tt h6) 0 0 40 [(0, .ref (ac 85))] []) ?_ (fun k40 hk40 => ?_)
      · skip
        refine tm_iconst X (0 : Int32) dX17_all_40 (by decide) ?_
        exact hk41 (0 : Int32)
      · skip
        refine tm_if_eq X 40 dX17_all_17 rfl ?_ ?_
        · skip
          refine tm_lv X [0] rfl ?_
          exact hk40
        · skip
          refine tm_aload_n X 0 dX17_all_20 rfl rfl ?_
          refine tm_cl1 (fun r11 e10 => ?_)
          refine tm_callUi (As := []) (rest := []) (q0 := (35 + tt.2.2.length + 0)) X (ctX15_isEnd_85 l D ad ac dA tt h6 r11 e10) rfl (lw_U q789 q790 q791 q716 q138 q717) cyX15_isEnd rfl (Classical.choose_spec (obXG_85 ad ac dA tt h6)) rfl ⟨by omega, by omega⟩ (Nat.le_of_ble_eq_true rfl) dX17_all_21 ⟨Nat.le_of_ble_eq_true rfl, Nat.le_of_ble_eq_true rfl⟩ rfl ?_
          refine tm_if_ne X 40 dX17_all_24 rfl ?_ ?_
          · skip
            refine tm_lv X [0] rfl ?_
            exact hk40
          · skip
            refine tm_aload_n X 0 dX17_all_27 rfl rfl ?_
            refine tm_cl1 (fun r13 e12 => ?_)
            refine tm_callUi (As := []) (rest := []) (q0 := (35 + tt.2.2.length + 0)) X (ctX15_here_85 l D ad ac dA tt h6 r13 e12) rfl (lw_U q774 q775 q776 q656 q138 q657) cyX15_here rfl (Classical.choose_spec (obXG_85 ad ac dA tt h6)) rfl ⟨by omega, by omega⟩ (Nat.le_of_ble_eq_true rfl) dX17_all_28 ⟨Nat.le_of_ble_eq_true rfl, Nat.le_of_ble_eq_true rfl⟩ rfl ?_
            refine tm_bipush X (41 : Int32) dX17_all_31 (by decide) ?_
            refine tm_ic_eq X 40 dX17_all_33 rfl ?_ ?_
            · skip
              refine tm_lv X [0] rfl ?_
              exact hk40
            · skip
              refine tm_iconst X (1 : Int32) dX17_all_36 (by decide) ?_
              refine tm_goto X 41 dX17_all_37 rfl ?_
              refine tm_lv X [0] rfl ?_
              exact hk41 (1 : Int32)
def mX17_allR : Nat → Hp → Option Hp
  | 0, _ => none
  | d + 1, h => mX17_all (mX17_one (mX17_rounds (mX17_allR d))) h
theorem ctX17_allR : ∀ (d : Nat) (l : Launch) (D : va_G) (ad ac : Nat → Nat) (dA : Nat → ClassId) (tt : (Nat → Option Nat) × (Nat → Option Nat) × va_W) (h h' : Hp) (hm : mX17_allR d h = some h'), CT l yX17_all cX17_all 2 none D dA (d * 6) (d * 139) 0 0 (wXG ad ac dA tt h) [.ref (ac 85)] none (wXG ad ac dA tt h') := by
  intro d
  induction d with
  | zero =>
    intro l D ad ac dA tt h h' hm
    cases hm
  | succ d ih =>
    intro l D ad ac dA tt h h' hm
    rw [show (d + 1) * 6 = d * 6 + 1 + 4 + 1 by omega, show (d + 1) * 139 = d * 139 + 22 + 91 + 26 by omega]
    exact ctX17_all _ _ _ l D ad ac dA tt (fun h h' hm => ctX17_one _ _ _ l D ad ac dA tt (fun h h' hm => ctX17_rounds _ _ _ l D ad ac dA tt (fun h h' hm => ih l D ad ac dA tt h h' hm) h h' hm) h h' hm) h h' hm
def mX17_allT (h : Hp) : Option Hp := mX17_allR 5 h
theorem ctX17_allT (l : Launch) (D : va_G) (ad ac : Nat → Nat) (dA : Nat → ClassId) (tt : (Nat → Option Nat) × (Nat → Option Nat) × va_W) (h h' : Hp) (hm : mX17_allT h = some h') : CT l yX17_all cX17_all 2 none D dA 30 695 0 0 (wXG ad ac dA tt h) [.ref (ac 85)] none (wXG ad ac dA tt h') := ctX17_allR 5 l D ad ac dA tt h h' hm
def mX17_read (h : Hp)  : Option (Int32 × Hp) :=
cl1 (mX17_allT h) (fun h2 =>
cl1 (mX15_isGood 85 h2) (fun r4 =>
nm (fun (h5 : Hp) =>
cl1 (mX15_answer 85 h5 (h5 85 6)) (fun r7 =>
some (r7, h5))) (fun k27 =>
if r4 = 0 then (
k27 h2) else (
cl1 (mX15_isEnd 85 h2) (fun r9 =>
if r9 = 0 then (
cl1 (mX15_place 85 h2) (fun r11 =>
cl1 (mX15_bad 85 h2 (1 : Int32) r11) (fun h13 =>
k27 h13))) else (
k27 h2))))))
theorem cyX17_read : Callee yX17_read 0 := by unfold Callee; decide +kernel
set_option maxHeartbeats 4000000 in
theorem ctX17_read (l : Launch) (D : va_G) (ad ac : Nat → Nat) (dA : Nat → ClassId) (tt : (Nat → Option Nat) × (Nat → Option Nat) × va_W) (h : Hp)  (r : Int32) (h' : Hp) (hm : mX17_read h = some (r, h')) : CT l yX17_read cX17_read 1 (some .int) D dA 31 716 0 0 (wXG ad ac dA tt h) [.ref (ac 85)] (some (.int r)) (wXG ad ac dA tt h') := by
  refine ct_open (by decide) (Nat.le_of_ble_eq_true rfl) ?_
  intro G X hI hZ hV hR
  have hRet := hI rfl r rfl
  refine (show TM G (r, h') (mX17_read h) (wXG ad ac dA tt h) 0 0 0 [(0, .ref (ac 85))] [] from ?_) hm
  clear hm hI hZ hV hR
  unfold mX17_read
  refine tm_aload_n X 0 dX17_read_0 rfl rfl ?_
  refine tm_cl1 (fun h2 e1 => ?_)
  refine tm_callVv (As := []) (rest := []) (q0 := (35 + tt.2.2.length + 0)) X (ctX17_allT l D ad ac dA tt h h2 e1) (lw_V q757 q759 qs17 q140 q760) cyX17_all rfl (Classical.choose_spec (obXG_85 ad ac dA tt h)) rfl ⟨(Nat.le_of_ble_eq_true rfl), (Nat.le_of_ble_eq_true rfl)⟩ (Nat.le_of_ble_eq_true rfl) dX17_read_1 ⟨Nat.le_of_ble_eq_true rfl, Nat.le_of_ble_eq_true rfl⟩ rfl ?_
  refine tm_aload_n X 0 dX17_read_4 rfl rfl ?_
  refine tm_cl1 (fun r4 e3 => ?_)
  refine tm_callUi (As := []) (rest := []) (q0 := (35 + tt.2.2.length + 0)) X (ctX15_isGood_85 l D ad ac dA tt h2 r4 e3) rfl (lw_U q761 q762 q763 q680 q138 q681) cyX15_isGood rfl (Classical.choose_spec (obXG_85 ad ac dA tt h2)) rfl ⟨(Nat.le_of_ble_eq_true rfl), (Nat.le_of_ble_eq_true rfl)⟩ (Nat.le_of_ble_eq_true rfl) dX17_read_5 ⟨Nat.le_of_ble_eq_true rfl, Nat.le_of_ble_eq_true rfl⟩ rfl ?_
  refine tm_let (fun k => ∀ (h5 : Hp), TM G (r, h') (k h5) (wXG ad ac dA tt h5) 0 0 27 [(0, .ref (ac 85))] []) ?_ (fun k27 hk27 => ?_)
  · intro h5
    refine tm_aload_n X 0 dX17_read_27 rfl rfl ?_
    refine tm_aload_n X 0 dX17_read_28 rfl rfl ?_
    refine tm_getI X (fiXG_85_6 ad ac dA tt) in_X17 rfl (Nat.le_of_ble_eq_true rfl) q736 rfl dX17_read_29 ?_
    refine tm_cl1 (fun r7 e6 => ?_)
    refine tm_callUi (As := [.int (h5 85 6)]) (rest := []) (q0 := (35 + tt.2.2.length + 0)) X (ctX15_answer_85 l D ad ac dA tt h5 (h5 85 6) r7 e6) rfl (lw_U q792 q793 q794 q722 q138 q723) cyX15_answer rfl (Classical.choose_spec (obXG_85 ad ac dA tt h5)) rfl ⟨(Nat.le_of_ble_eq_true rfl), (Nat.le_of_ble_eq_true rfl)⟩ (Nat.le_of_ble_eq_true rfl) dX17_read_32 ⟨Nat.le_of_ble_eq_true rfl, Nat.le_of_ble_eq_true rfl⟩ rfl ?_
    exact tm_retIH (wf := wXG ad ac dA tt) hRet dX17_read_35
  · skip
    refine tm_if_eq X 27 dX17_read_8 rfl ?_ ?_
    · skip
      exact hk27 h2
    · skip
      refine tm_aload_n X 0 dX17_read_11 rfl rfl ?_
      refine tm_cl1 (fun r9 e8 => ?_)
      refine tm_callUi (As := []) (rest := []) (q0 := (35 + tt.2.2.length + 0)) X (ctX15_isEnd_85 l D ad ac dA tt h2 r9 e8) rfl (lw_U q789 q790 q791 q716 q138 q717) cyX15_isEnd rfl (Classical.choose_spec (obXG_85 ad ac dA tt h2)) rfl ⟨(Nat.le_of_ble_eq_true rfl), (Nat.le_of_ble_eq_true rfl)⟩ (Nat.le_of_ble_eq_true rfl) dX17_read_12 ⟨Nat.le_of_ble_eq_true rfl, Nat.le_of_ble_eq_true rfl⟩ rfl ?_
      refine tm_if_ne X 27 dX17_read_15 rfl ?_ ?_
      · skip
        exact hk27 h2
      · skip
        refine tm_aload_n X 0 dX17_read_18 rfl rfl ?_
        refine tm_iconst X (1 : Int32) dX17_read_19 (by decide) ?_
        refine tm_aload_n X 0 dX17_read_20 rfl rfl ?_
        refine tm_cl1 (fun r11 e10 => ?_)
        refine tm_callUi (As := []) (rest := [.int (1 : Int32), .ref (ac 85)]) (q0 := (35 + tt.2.2.length + 0)) X (ctX15_place_85 l D ad ac dA tt h2 r11 e10) rfl (lw_U q768 q769 q770 q662 q138 q663) cyX15_place rfl (Classical.choose_spec (obXG_85 ad ac dA tt h2)) rfl ⟨(Nat.le_of_ble_eq_true rfl), (Nat.le_of_ble_eq_true rfl)⟩ (Nat.le_of_ble_eq_true rfl) dX17_read_21 ⟨Nat.le_of_ble_eq_true rfl, Nat.le_of_ble_eq_true rfl⟩ rfl ?_
        refine tm_cl1 (fun h13 e12 => ?_)
        refine tm_callUv (As := [.int (1 : Int32), .int r11]) (rest := []) (q0 := (35 + tt.2.2.length + 0)) X (ctX15_bad_85 l D ad ac dA tt h2 (1 : Int32) r11 h13 e12) rfl (lw_U q783 q784 q785 q668 q138 q669) cyX15_bad rfl (Classical.choose_spec (obXG_85 ad ac dA tt h2)) rfl ⟨(Nat.le_of_ble_eq_true rfl), (Nat.le_of_ble_eq_true rfl)⟩ (Nat.le_of_ble_eq_true rfl) dX17_read_24 ⟨Nat.le_of_ble_eq_true rfl, Nat.le_of_ble_eq_true rfl⟩ rfl ?_
        exact hk27 h13
