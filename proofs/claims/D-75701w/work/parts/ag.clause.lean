/-! Reader: a clause -/
set_option maxRecDepth 100000
def CPost (ad ac : Nat → Nat) (dA : Nat → ClassId) (tt : (Nat → Option Nat) × (Nat → Option Nat) × va_W) (Q : Hp → va_W → (Nat → Option Nat) × (Nat → Option Nat) → Prop) : Option Value → va_W → Prop := fun rv w' => rv = none ∧ ∃ h' P sc', w' = wXP ad ac dA tt sc' P h' ∧ Q h' P sc'
def tl (h : Hp) (j : Nat) (c : Int32) : Hp := u2 (u2 h 92 j c) 91 3 (nI (j + 1))
theorem tm_cret {G : Gty} {l : Launch} {cc : ByteArray} {nL : Nat} {own : String} {D : va_G} {dA : Nat → ClassId} {fr lo mc ms : Nat} {ce sl pc : Nat} {lv : List (Nat × Value)} {ad ac : Nat → Nat} {tt : (Nat → Option Nat) × (Nat → Option Nat) × va_W} {sc : (Nat → Option Nat) × (Nat → Option Nat)} {P : va_W} {h : Hp} {Q : Hp → va_W → (Nat → Option Nat) × (Nat → Option Nat) → Prop} (X : IsG G l cc nL own D dA fr lo mc ms) (hV : ∀ w', CPost ad ac dA tt Q none w' → RTv G cc w' mc ms) (hQ : Q h P sc) (hd : decode cc pc = .ok (.return_, 1)) (hf : ce ≤ mc ∧ sl ≤ ms) : TM G () (some ()) (wXP ad ac dA tt sc P h) ce sl pc lv [] :=
  tm_widen (ce' := mc) (sl' := ms) X hf.1 hf.2 (fun _ => hV _ ⟨rfl, h, P, sc, rfl, hQ⟩ pc lv hd)
section
variable {n : Nat}
/-- the tables get the clause -/
theorem cl_tail {h1 : Hp} {j : Nat} (hj : j < 16) (hm : h1 91 3 = nI j) (l : Launch) (D : va_G) (dA : Nat → ClassId) (ad ac : Nat → Nat) (tt : (Nat → Option Nat) × (Nat → Option Nat) × va_W) (sc : (Nat → Option Nat) × (Nat → Option Nat)) (Gj : Gty) (mc ms : Nat) (X : IsG Gj l cX6_clause 4 "HighSpots$Reader" D dA 70 2000 mc ms) {Q : Hp → va_W → (Nat → Option Nat) × (Nat → Option Nat) → Prop} (hV : ∀ w', CPost ad ac dA tt Q none w' → RTv Gj cX6_clause w' mc ms) {P : va_W} {x2 x3 : Option Nat} {c : Int32} (h2 : ∀ y, x2 = some y → ∃ fs, (y, .inr (6, fs)) ∈ P) (h3 : ∀ y, x3 = some y → ∃ fs, (y, .inr (9, fs)) ∈ P) (hQ : Q (tl h1 j c) P (va_up sc.1 j x2, va_up sc.2 j x3)) (ce sl : Nat) (hb : ce ≤ mc ∧ sl ≤ ms) : TM Gj () (some ()) (wXP ad ac dA tt sc P h1) ce sl 130 [(3, va_rf x3), (2, va_rf x2), (1, .int c), (0, .ref (ac 90))] [] := by
  refine tm_aload_n X 3 dX6_clause_130 rfl rfl ?_
  refine tm_rtext X dX6_clause_131 ?_
  refine tm_rletters X dX6_clause_134 ?_
  refine tm_aload_n X 3 dX6_clause_137 rfl rfl ?_
  refine tm_rtext X dX6_clause_138 ?_
  refine tm_rmany X dX6_clause_141 ?_
  rw [hm]
  refine tm_iload_n X 2 dX6_clause_144 rfl rfl ?_
  refine tm_rletter X hj dX6_clause_145 ?_
  have hm2 : u2 h1 92 j c 91 3 = nI j := hm
  refine tm_aload_n X 3 dX6_clause_146 rfl rfl ?_
  refine tm_rtext X dX6_clause_147 ?_
  refine tm_rsums X dX6_clause_150 ?_
  refine tm_aload_n X 3 dX6_clause_153 rfl rfl ?_
  refine tm_rtext X dX6_clause_154 ?_
  refine tm_rmany X dX6_clause_157 ?_
  rw [hm2]
  refine tm_aload_nq X 1 dX6_clause_160 rfl rfl ?_
  have k : TM Gj () (some ()) (wXP ad ac dA tt (va_up sc.1 j x2, sc.2) P (u2 h1 92 j c)) ce sl 162 [(3, va_rf x3), (2, va_rf x2), (1, .int c), (0, .ref (ac 90))] [] := by
    refine tm_aload_n X 3 dX6_clause_162 rfl rfl ?_
    refine tm_rtext X dX6_clause_163 ?_
    refine tm_rconds X dX6_clause_166 ?_
    refine tm_aload_n X 3 dX6_clause_169 rfl rfl ?_
    refine tm_rtext X dX6_clause_170 ?_
    refine tm_rmany X dX6_clause_173 ?_
    rw [hm2]
    refine tm_aload_nq X 0 dX6_clause_176 rfl rfl ?_
    have k2 : TM Gj () (some ()) (wXP ad ac dA tt (va_up sc.1 j x2, va_up sc.2 j x3) P (u2 h1 92 j c)) ce sl 178 [(3, va_rf x3), (2, va_rf x2), (1, .int c), (0, .ref (ac 90))] [] := by
      refine tm_aload_n X 3 dX6_clause_178 rfl rfl ?_
      refine tm_rtext X dX6_clause_179 ?_
      refine tm_dup X dX6_clause_182 rfl ?_
      refine tm_rmany X dX6_clause_183 ?_
      rw [hm2]
      refine tm_iconst X (1 : Int32) dX6_clause_186 (by decide) ?_
      refine tm_iadd X dX6_clause_187 ?_
      rw [nI_1]
      refine tm_rputmany X dX6_clause_188 ?_
      exact tm_cret X hV hQ dX6_clause_191 hb
    cases x3 with
    | none => exact tm_setCN X hj dX6_clause_177 k2
    | some y =>
      obtain ⟨fs, hy⟩ := h3 y rfl
      exact tm_setC X hj hy dX6_clause_177 k2
  cases x2 with
  | none => exact tm_setSN X hj dX6_clause_161 k
  | some y =>
    obtain ⟨fs, hy⟩ := h2 y rfl
    exact tm_setS X hj hy dX6_clause_161 k
/-- behind the sum: a bad one -/
theorem cl_ill {h1 : Hp} {a1 o f p j : Nat} (R1 : RS h1 n a1 o f p) (hf : 0 < f) (hj : j < 16) (hm : h1 91 3 = nI j) (l : Launch) (D : va_G) (dA : Nat → ClassId) (ad ac : Nat → Nat) (tt : (Nat → Option Nat) × (Nat → Option Nat) × va_W) (sc : (Nat → Option Nat) × (Nat → Option Nat)) (Gj : Gty) (mc ms : Nat) (X : IsG Gj l cX6_clause 4 "HighSpots$Reader" D dA 70 2000 mc ms) {Q : Hp → va_W → (Nat → Option Nat) × (Nat → Option Nat) → Prop} (hV : ∀ w', CPost ad ac dA tt Q none w' → RTv Gj cX6_clause w' mc ms) {P : va_W} {x2 : Option Nat} {c : Int32} (h2 : ∀ y, x2 = some y → ∃ fs, (y, .inr (6, fs)) ∈ P) (hQ : ∀ sc', Q (tl h1 j c) P sc') (ce sl : Nat) (hb : ce ≤ mc ∧ sl ≤ ms) : TM Gj () (some ()) (wXP ad ac dA tt sc P h1) ce sl 114 [(2, va_rf x2), (1, .int c), (0, .ref (ac 90))] [] := by
  refine tm_aload_n X 2 dX6_clause_114 rfl rfl ?_
  refine tm_risGood X (Y_ill R1 hf) ⟨by omega, by omega⟩ (Nat.le_of_ble_eq_true rfl) dX6_clause_115 ⟨by omega, by omega⟩ ?_
  refine tm_if_eqT X 128 (rfl) dX6_clause_118 rfl ?_
  refine tm_anull X dX6_clause_128 ?_
  refine tm_astore_nq X [(3, va_rf none), (2, va_rf x2), (1, .int c), (0, .ref (ac 90))] dX6_clause_129 rfl (Nat.le_of_ble_eq_true rfl) (by cases x2 <;> rfl) ?_
  exact cl_tail hj hm l D dA ad ac tt sc Gj mc ms X hV h2 (fun y hy => by cases hy) (hQ _) ce sl hb
theorem cl_mid {h1 : Hp} {a1 o f p j : Nat} (R1 : RS h1 n a1 o f p) (ha1 : a1 ≤ n + 1) (hj : j < 16) (hm : h1 91 3 = nI j) (l : Launch) (D : va_G) (dA : Nat → ClassId) (ad ac : Nat → Nat) (tt : (Nat → Option Nat) × (Nat → Option Nat) × va_W) (sc : (Nat → Option Nat) × (Nat → Option Nat)) (Gj : Gty) (mc ms : Nat) (X : IsG Gj l cX6_clause 4 "HighSpots$Reader" D dA 70 2000 mc ms) {Q : Hp → va_W → (Nat → Option Nat) × (Nat → Option Nat) → Prop} (hV : ∀ w', CPost ad ac dA tt Q none w' → RTv Gj cX6_clause w' mc ms) {P : va_W} {x2 : Option Nat} {c : Int32} (h2 : ∀ y, x2 = some y → ∃ fs, (y, .inr (6, fs)) ∈ P) {fr1 lo1 mc1 ms1 : Nat} {Q1 : Hp → va_W → Option Nat → Prop} (hC : f = 0 → hc (tX h1) n a1 = 40 → CX_condition l D dA fr1 lo1 mc1 ms1 ad ac tt sc h1 Q1)
    (hQ1 : 0 < f → ∀ sc', Q (tl h1 j c) P sc') (hQ2 : f = 0 → hc (tX h1) n a1 ≠ 40 → ∀ sc', Q (tl (yF h1 1 a1) j c) P sc') (hQ3 : f = 0 → ∀ h3 P3 x3, Q1 h3 P3 x3 → h3 91 3 = nI j ∧ (∀ y, x3 = some y → ∃ fs, (y, .inr (9, fs)) ∈ P3) ∧ Q (tl h3 j c) (P3 ++ P) (va_up sc.1 j x2, va_up sc.2 j x3)) (hr : fr1 + 1 ≤ 70 ∧ 30 + lo1 ≤ 2000) (ce sl : Nat) (hb : ce + mc1 ≤ mc ∧ sl + ms1 ≤ ms) : TM Gj () (some ()) (wXP ad ac dA tt sc P h1) ce sl 88 [(1, .int c), (0, .ref (ac 90))] [va_rf x2] := by
  have hn9 := R1.2.2.2.2.2.1
  have h256 := hc_lt (t := tX h1) (fun i => oct_lt _) n a1
  refine tm_astore_nq X [(2, va_rf x2), (1, .int c), (0, .ref (ac 90))] dX6_clause_88 rfl (Nat.le_of_ble_eq_true rfl) rfl ?_
  refine tm_aload_n X 2 dX6_clause_89 rfl rfl ?_
  by_cases cf : f = 0
  · subst cf
    refine tm_risGood X (Y_good R1) ⟨by omega, by omega⟩ (Nat.le_of_ble_eq_true rfl) dX6_clause_90 ⟨by omega, by omega⟩ ?_
    refine tm_if_eqF X 114 (by decide) dX6_clause_93 rfl ?_
    refine tm_aload_n X 2 dX6_clause_96 rfl rfl ?_
    refine tm_rhere X (Y_here R1) ⟨by omega, by omega⟩ (Nat.le_of_ble_eq_true rfl) dX6_clause_97 ⟨by omega, by omega⟩ ?_
    refine tm_bipush X (40 : Int32) dX6_clause_100 (by decide) ?_
    by_cases c40 : hc (tX h1) n a1 = 40
    · refine tm_ic_eqT X 114 (by rw [c40]; rfl) dX6_clause_102 rfl ?_
      refine tm_aload_n X 2 dX6_clause_114 rfl rfl ?_
      refine tm_risGood X (Y_good R1) ⟨by omega, by omega⟩ (Nat.le_of_ble_eq_true rfl) dX6_clause_115 ⟨by omega, by omega⟩ ?_
      refine tm_if_eqF X 128 (by decide) dX6_clause_118 rfl ?_
      refine tm_aload_n X 2 dX6_clause_121 rfl rfl ?_
      refine tm_rcondition X (hC rfl c40) ⟨by omega, by omega⟩ (Nat.le_of_ble_eq_true rfl) dX6_clause_122 ⟨by omega, by omega⟩ ?_
      intro h3 P3 x3 hq
      obtain ⟨k1, k2, k3⟩ := hQ3 rfl h3 P3 x3 hq
      refine tm_goto X 129 dX6_clause_125 rfl ?_
      refine tm_astore_nq X [(3, va_rf x3), (2, va_rf x2), (1, .int c), (0, .ref (ac 90))] dX6_clause_129 rfl (Nat.le_of_ble_eq_true rfl) (by cases x2 <;> rfl) ?_
      refine cl_tail hj k1 l D dA ad ac tt sc Gj mc ms X hV (fun y hy => ?_) (fun y hy => ?_) k3 _ _ ⟨by omega, by omega⟩
      · obtain ⟨fs, h9⟩ := h2 y hy
        exact ⟨fs, List.mem_append_right _ h9⟩
      · obtain ⟨fs, h9⟩ := k2 y hy
        exact ⟨fs, List.mem_append_left _ h9⟩
    · refine tm_ic_eqF X 114 (fun e => c40 ((l_eq (N := 40) (c := 40) rfl (by decide) (by omega)).mp e)) dX6_clause_102 rfl ?_
      refine tm_aload_n X 2 dX6_clause_105 rfl rfl ?_
      refine tm_iconst X (1 : Int32) dX6_clause_106 (by decide) ?_
      refine tm_aload_n X 2 dX6_clause_107 rfl rfl ?_
      refine tm_rat X dX6_clause_108 ?_
      rw [R1.2.1]
      have e9 : mX6_bad h1 (nI 1) (nI a1) = some (yF h1 1 a1) := by
        unfold mX6_bad
        rw [R1.2.2.2.1, if_pos (show nI 0 ≤ (0 : Int32) by decide), nm_s, nm_s]
        rfl
      refine tm_rbad X (e9) ⟨by omega, by omega⟩ (Nat.le_of_ble_eq_true rfl) dX6_clause_111 ⟨by omega, by omega⟩ ?_
      exact cl_ill (RS_F R1 (by decide)) (by decide) hj hm l D dA ad ac tt sc Gj mc ms X hV h2 (hQ2 rfl c40) ce sl ⟨by omega, by omega⟩
  · refine tm_risGood X (Y_ill R1 (by omega)) ⟨by omega, by omega⟩ (Nat.le_of_ble_eq_true rfl) dX6_clause_90 ⟨by omega, by omega⟩ ?_
    refine tm_if_eqT X 114 (rfl) dX6_clause_93 rfl ?_
    exact cl_ill R1 (by omega) hj hm l D dA ad ac tt sc Gj mc ms X hV h2 (hQ1 (by omega)) ce sl ⟨by omega, by omega⟩
theorem ixv_t : ∀ c : Fin 256, mJ0_indexOf_s0 (nI c.val) = some (if c.val = 118 then 0 else if c.val = 121 then 1 else if c.val = 120 then 2 else -1) := by decide +kernel
theorem Y_ixv {c : Nat} (h : c < 256) : mJ0_indexOf_s0 (nI c) = some (if c = 118 then 0 else if c = 121 then 1 else if c = 120 then 2 else -1) := ixv_t ⟨c, h⟩
def ruL (c : Nat) : Prop := c = 118 ∨ c = 121 ∨ c = 120
/-- the letter: wrong, or one too many, or the text goes on -/
theorem cl_head {h : Hp} {a o j : Nat} (R0 : RS h n a o 0 0) (ha : a ≤ n) (hj : j ≤ 16) (hm : h 91 3 = nI j) (l : Launch) (D : va_G) (dA : Nat → ClassId) (ad ac : Nat → Nat) (tt : (Nat → Option Nat) × (Nat → Option Nat) × va_W) (sc : (Nat → Option Nat) × (Nat → Option Nat)) (Gj : Gty) (mc ms : Nat) (X : IsG Gj l cX6_clause 4 "HighSpots$Reader" D dA 70 2000 mc ms) {Q : Hp → va_W → (Nat → Option Nat) × (Nat → Option Nat) → Prop} (hV : ∀ w', CPost ad ac dA tt Q none w' → RTv Gj cX6_clause w' mc ms) {P : va_W}
    (hQ1 : ¬ ruL (hc (tX h) n a) → Q (yF h 1 a) P sc) (hQ2 : ruL (hc (tX h) n a) → j = 16 → Q (yF h 4 a) P sc) (k : ruL (hc (tX h) n a) → j < 16 → TM Gj () (some ()) (wXP ad ac dA tt sc P (u2 (yA h) 90 3 0)) 0 0 74 [(1, .int (nI (hc (tX h) n a))), (0, .ref (ac 90))] []) : TM Gj () (some ()) (wXP ad ac dA tt sc P h) 0 0 0 [(0, .ref (ac 90))] [] := by
  have hn := R0.2.2.2.2.2.1
  have h256 := hc_lt (t := tX h) (fun i => oct_lt _) n a
  refine tm_aload_n X 0 dX6_clause_0 rfl rfl ?_
  refine tm_rhere X (Y_here R0) ⟨by omega, by omega⟩ (Nat.le_of_ble_eq_true rfl) dX6_clause_1 ⟨by omega, by omega⟩ ?_
  refine tm_istore_n X [(1, .int (nI (hc (tX h) n a))), (0, .ref (ac 90))] dX6_clause_4 rfl (Nat.le_of_ble_eq_true rfl) rfl ?_
  refine tm_iload_n X 0 dX6_clause_5 rfl rfl ?_
  have fin : ∀ h2 f p, RS h2 n a o f p → 0 < f → Q h2 P sc → TM Gj () (some ()) (wXP ad ac dA tt sc P h2) 0 0 51 [(1, .int (nI (hc (tX h) n a))), (0, .ref (ac 90))] [] := fun h2 f p r1 r2 r3 => by
    refine tm_aload_n X 1 dX6_clause_51 rfl rfl ?_
    refine tm_risGood X (Y_ill r1 r2) ⟨by omega, by omega⟩ (Nat.le_of_ble_eq_true rfl) dX6_clause_52 ⟨by omega, by omega⟩ ?_
    refine tm_if_neF X 59 (rfl) dX6_clause_55 rfl ?_
    exact tm_cret X hV r3 dX6_clause_58 ⟨by omega, by omega⟩
  have bad1 : ¬ ruL (hc (tX h) n a) → TM Gj () (some ()) (wXP ad ac dA tt sc P h) 0 0 18 [(1, .int (nI (hc (tX h) n a))), (0, .ref (ac 90))] [] := fun e9 => by
    refine tm_aload_n X 1 dX6_clause_18 rfl rfl ?_
    refine tm_iconst X (1 : Int32) dX6_clause_19 (by decide) ?_
    refine tm_aload_n X 1 dX6_clause_20 rfl rfl ?_
    refine tm_rat X dX6_clause_21 ?_
    rw [R0.2.1]
    refine tm_rbad X (Y_bad0 R0 1 a) ⟨by omega, by omega⟩ (Nat.le_of_ble_eq_true rfl) dX6_clause_24 ⟨by omega, by omega⟩ ?_
    refine tm_goto X 51 dX6_clause_27 rfl ?_
    exact fin _ _ _ (RS_F R0 (by decide)) (by decide) (hQ1 e9)
  have good1 : ruL (hc (tX h) n a) → TM Gj () (some ()) (wXP ad ac dA tt sc P h) 0 0 30 [(1, .int (nI (hc (tX h) n a))), (0, .ref (ac 90))] [] := fun e9 => by
    refine tm_aload_n X 1 dX6_clause_30 rfl rfl ?_
    refine tm_rtext X dX6_clause_31 ?_
    refine tm_rmany X dX6_clause_34 ?_
    rw [hm]
    refine tm_bipush X (16 : Int32) dX6_clause_37 (by decide) ?_
    by_cases c16 : j = 16
    · refine tm_ic_neF X 51 (by rw [c16]; rfl) dX6_clause_39 rfl ?_
      refine tm_aload_n X 1 dX6_clause_42 rfl rfl ?_
      refine tm_iconst X (4 : Int32) dX6_clause_43 (by decide) ?_
      refine tm_aload_n X 1 dX6_clause_44 rfl rfl ?_
      refine tm_rat X dX6_clause_45 ?_
      rw [R0.2.1]
      refine tm_rbad X (Y_bad0 R0 4 a) ⟨by omega, by omega⟩ (Nat.le_of_ble_eq_true rfl) dX6_clause_48 ⟨by omega, by omega⟩ ?_
      exact fin _ _ _ (RS_F R0 (by decide)) (by decide) (hQ2 e9 c16)
    · refine tm_ic_neT X 51 (fun e => c16 ((l_eq (N := 16) (c := 16) rfl (by decide) (by omega)).mp e)) dX6_clause_39 rfl ?_
      refine tm_aload_n X 1 dX6_clause_51 rfl rfl ?_
      refine tm_risGood X (Y_good R0) ⟨by omega, by omega⟩ (Nat.le_of_ble_eq_true rfl) dX6_clause_52 ⟨by omega, by omega⟩ ?_
      refine tm_if_neT X 59 (by decide) dX6_clause_55 rfl ?_
      refine tm_aload_n X 1 dX6_clause_59 rfl rfl ?_
      refine tm_dup X dX6_clause_60 rfl ?_
      refine tm_rat X dX6_clause_61 ?_
      refine tm_iconst X (1 : Int32) dX6_clause_64 (by decide) ?_
      refine tm_iadd X dX6_clause_65 ?_
      refine tm_rputat X dX6_clause_66 ?_
      refine tm_aload_n X 1 dX6_clause_69 rfl rfl ?_
      refine tm_iconst X (0 : Int32) dX6_clause_70 (by decide) ?_
      refine tm_rputopen X dX6_clause_71 ?_
      exact k e9 (by omega)
  by_cases c0 : hc (tX h) n a = 0
  · refine tm_if_eqT X 18 (by rw [c0]; rfl) dX6_clause_6 rfl ?_
    exact bad1 (by unfold ruL; omega)
  · refine tm_if_eqF X 18 (nI_ne0 (by omega) (by omega)) dX6_clause_6 rfl ?_
    refine tm_ldcS0 X rfl dX6_clause_9 ?_
    refine tm_iload_n X 0 dX6_clause_11 rfl rfl ?_
    refine tm_callVSi (i := 0) (As := [.int (nI (hc (tX h) n a))]) (rest := []) X (by decide) rfl rfl (ctJ0_indexOf_s0 l D dA _ _ (Y_ixv h256)) (lw_V q384 q385 q386 q124 q387) cyJ0_indexOf rfl ⟨by decide, by decide⟩ (Nat.le_of_ble_eq_true rfl) dX6_clause_12 ⟨by omega, by omega⟩ rfl ?_
    by_cases c1 : hc (tX h) n a = 118
    · refine tm_if_geT X 30 (by rw [if_pos c1]; decide) dX6_clause_15 rfl ?_
      exact good1 (Or.inl c1)
    · by_cases c2 : hc (tX h) n a = 121
      · refine tm_if_geT X 30 (by rw [if_neg c1, if_pos c2]; decide) dX6_clause_15 rfl ?_
        exact good1 (Or.inr (Or.inl c2))
      · by_cases c3 : hc (tX h) n a = 120
        · refine tm_if_geT X 30 (by rw [if_neg c1, if_neg c2, if_pos c3]; decide) dX6_clause_15 rfl ?_
          exact good1 (Or.inr (Or.inr c3))
        · refine tm_if_geF X 30 (by rw [if_neg c1, if_neg c2, if_neg c3]; decide) dX6_clause_15 rfl ?_
          exact bad1 (by unfold ruL; omega)
end
