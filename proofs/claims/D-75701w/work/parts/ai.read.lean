/-! Reader: the whole text -/
set_option maxRecDepth 100000
theorem cyX6_clause : Callee yX6_clause 0 := by unfold Callee; decide +kernel
theorem tm_rclause {G : Gty} {l : Launch} {cc : ByteArray} {nL : Nat} {D : va_G} {dA : Nat → ClassId} {fr lo mc ms : Nat} {ρ : Type} {res : ρ} {M : Option ρ} {ce sl pc : Nat} {lv : List (Nat × Value)} {rest : List Value} {ad ac : Nat → Nat} {tt : (Nat → Option Nat) × (Nat → Option Nat) × va_W} {sc : (Nat → Option Nat) × (Nat → Option Nat)} {P : va_W} {h : Hp} (X : IsG G l cc nL "HighSpots$Reader" D dA fr lo mc ms) {Q : Hp → va_W → (Nat → Option Nat) × (Nat → Option Nat) → Prop} {mc1 ms1 : Nat} (hC : CTE l yX6_clause cX6_clause 4 none D dA 70 2000 mc1 ms1 (wXR ad ac dA tt sc h) [.ref (ac 90)] (CPost ad ac dA tt Q)) (hroom : 71 ≤ fr ∧ 2023 ≤ lo) (hcat : (rest.map fun v => v.category).sum ≤ 8) (hd : decode cc pc = .ok (.invokevirtual 146, 3)) (hf : ce + mc1 ≤ mc ∧ sl + ms1 ≤ ms) (k : ∀ h' P' sc', Q h' P' sc' → TM G res M (wXP ad ac dA tt sc' (P' ++ P) h') (ce + mc1) (sl + ms1) (pc + 3) lv rest) : TM G res M (wXP ad ac dA tt sc P h) ce sl pc lv (.ref (ac 90) :: rest) := by
  refine tm_callVFE (As := []) (rest := rest) (wr := P) X hC (lw_V q375 q377 qs2 q123 q378) cyX6_clause rfl (Classical.choose_spec (obXR_90 ad ac dA tt sc h)) rfl ⟨by omega, by omega⟩ hcat hd hf rfl ?_
  rintro _ _ ⟨rfl, h', P', sc', rfl, hQ⟩
  exact tm_eqw X (List.append_assoc _ _ _) (k h' P' sc' hQ)
/-- the codes from b up to e come to F -/
def SgK (K : List Nat) (b e : Nat) (F : VF) : Prop := ∃ C, Sg C b F ∧ e = b + C.length ∧ ∀ i z, C[i]? = some z → K[b + i]? = some z
theorem SgK_a {K C : List Nat} {b e : Nat} {F : VF} (H : SgK K b e F) : SgK (K ++ C) b e F := by
  obtain ⟨C1, h1, h2, h3⟩ := H
  refine ⟨C1, h1, h2, fun i z hz => ?_⟩
  have := h3 i z hz
  rw [List.getElem?_append_left (List.getElem?_eq_some_iff.mp this).1]
  exact this
theorem SgK_i {K A B C : List Nat} {b : Nat} {F : VF} (hb : b = (K ++ A).length) (H : Sg B b F) : SgK (K ++ (A ++ (B ++ C))) b (b + B.length) F := by
  refine ⟨B, H, rfl, fun i z hz => ?_⟩
  have hi := (List.getElem?_eq_some_iff.mp hz).1
  subst hb
  rw [← List.append_assoc, List.getElem?_append_right (by omega), Nat.add_sub_cancel_left, List.getElem?_append_left hi]
  exact hz
/-- a clause of the tables -/
def ClR (K : List Nat) (P : va_W) (sc : (Nat → Option Nat) × (Nat → Option Nat)) (i : Nat) (z : Nat × Nat × Nat × Nat) : Prop := ∃ F G, (∃ y, sc.2 i = some y ∧ CDn 20 P y G) ∧ SgK K z.2.2.1 z.2.2.2 G ∧ (z.1 = 120 ∨ (∃ x fs, sc.1 i = some x ∧ SDn 20 P x F ∧ (x, .inr (6, fs)) ∈ P) ∧ SgK K z.2.1 z.2.2.1 F)
def TB (K : List Nat) (P : va_W) (sc : (Nat → Option Nat) × (Nat → Option Nat)) (h : Hp) (L : List (Nat × Nat × Nat × Nat)) : Prop := h 91 3 = nI L.length ∧ ∀ i z, L[i]? = some z → h 92 i = nI z.1 ∧ ClR K P sc i z
def RdP (ad ac : Nat → Nat) (dA : Nat → ClassId) (tt : (Nat → Option Nat) × (Nat → Option Nat) × va_W) (h0 : Hp) (r : Zr) (v : Int32) (w' : va_W) : Prop := ∃ h' P sc', w' = wXP ad ac dA tt sc' P h' ∧ Ex [90, 91, 92] h0 h' ∧ match r with
  | .inl (f, p) => v = -1000 * nI f - nI p ∧ 0 < f ∧ f ≤ 100 ∧ p ≤ 100000
  | .inr (K, L) => v = nI L.length ∧ L.length ≤ 16 ∧ TB K P sc' h' L
section
variable {n : Nat}
theorem rd_ill {h : Hp} {a o f p : Nat} (R0 : RS h n a o f p) (hf : 0 < f) (l : Launch) (D : va_G) (dA : Nat → ClassId) (ad ac : Nat → Nat) (tt : (Nat → Option Nat) × (Nat → Option Nat) × va_W) (sc : (Nat → Option Nat) × (Nat → Option Nat)) (Gj : Gty) (mc ms : Nat) (X : IsG Gj l cX6_read 2 "HighSpots$Reader" D dA 80 2100 mc ms) {h0 : Hp} (hE : Ex [90, 91, 92] h0 h) (hI : ∀ v w', RdP ad ac dA tt h0 (.inl (f, p)) v w' → RTi Gj cX6_read w' mc ms v) {P : va_W} (ce sl : Nat) (hb : ce ≤ mc ∧ sl ≤ ms) : TM Gj () (some ()) (wXP ad ac dA tt sc P h) ce sl 54 [(0, .ref (ac 90))] [] := by
  refine tm_aload_n X 0 dX6_read_54 rfl rfl ?_
  refine tm_risGood X (Y_ill R0 hf) ⟨by omega, by omega⟩ (Nat.le_of_ble_eq_true rfl) dX6_read_55 ⟨by omega, by omega⟩ ?_
  refine tm_if_eqT X 71 (rfl) dX6_read_58 rfl ?_
  refine tm_sipush X (-1000 : Int32) dX6_read_71 (by decide) ?_
  refine tm_aload_n X 0 dX6_read_74 rfl rfl ?_
  refine tm_rfault X dX6_read_75 ?_
  refine tm_imul X dX6_read_78 ?_
  refine tm_aload_n X 0 dX6_read_79 rfl rfl ?_
  refine tm_rplace X dX6_read_80 ?_
  refine tm_isub X dX6_read_83 ?_
  rw [R0.2.2.2.1, R0.2.2.2.2.1]
  exact tm_widen (ce' := mc) (sl' := ms) X hb.1 hb.2 (fun _ => hI _ _ ⟨h, P, sc, rfl, hE, rfl, hf, R0.2.2.2.2.2.2.2.2.1, R0.2.2.2.2.2.2.2.2.2⟩ 84 _ dX6_read_84)
theorem rd_end {h : Hp} {a o : Nat} (R0 : RS h n a o 0 0) {K : List Nat} {L : List (Nat × Nat × Nat × Nat)} (hL : L.length ≤ 16) (l : Launch) (D : va_G) (dA : Nat → ClassId) (ad ac : Nat → Nat) (tt : (Nat → Option Nat) × (Nat → Option Nat) × va_W) (sc : (Nat → Option Nat) × (Nat → Option Nat)) (Gj : Gty) (mc ms : Nat) (X : IsG Gj l cX6_read 2 "HighSpots$Reader" D dA 80 2100 mc ms) {h0 : Hp} (hE : Ex [90, 91, 92] h0 h) (hI : ∀ v w', RdP ad ac dA tt h0 (.inr (K, L)) v w' → RTi Gj cX6_read w' mc ms v) {P : va_W} (hT : TB K P sc h L) (ce sl : Nat) (hb : ce ≤ mc ∧ sl ≤ ms) : TM Gj () (some ()) (wXP ad ac dA tt sc P h) ce sl 54 [(0, .ref (ac 90))] [] := by
  refine tm_aload_n X 0 dX6_read_54 rfl rfl ?_
  refine tm_risGood X (Y_good R0) ⟨by omega, by omega⟩ (Nat.le_of_ble_eq_true rfl) dX6_read_55 ⟨by omega, by omega⟩ ?_
  refine tm_if_eqF X 71 (by decide) dX6_read_58 rfl ?_
  refine tm_aload_n X 0 dX6_read_61 rfl rfl ?_
  refine tm_rtext X dX6_read_62 ?_
  refine tm_rmany X dX6_read_65 ?_
  rw [hT.1]
  refine tm_goto X 84 dX6_read_68 rfl ?_
  exact tm_widen (ce' := mc) (sl' := ms) X hb.1 hb.2 (fun _ => hI _ _ ⟨h, P, sc, rfl, hE, rfl, hL, hT⟩ 84 _ dX6_read_84)
end
theorem rd_ok : ∀ (m : Nat) (t : Nat → Nat) (n a o0 g : Nat) (S0 K W : List Nat) (u : Nat × Nat × Nat) (L : List (Nat × Nat × Nat × Nat)), (∀ i, t i < 256) → n ≤ 240 → n - a < m → a ≤ n → K.length ≤ a → L.length ≤ 16 → ∃ r, Hz t n (0, a, o0, S0, K, (g, W, u, L)) r ∧ (∀ K' L', r = .inr (K', L') → K'.length ≤ 240) ∧ ∀ (h : Hp) (o : Nat), RS h n a o 0 0 → tX h = t → ∀ (l : Launch) (D : va_G) (dA : Nat → ClassId) (ad ac : Nat → Nat) (tt : (Nat → Option Nat) × (Nat → Option Nat) × va_W) (sc : (Nat → Option Nat) × (Nat → Option Nat)) (P : va_W), TB K P sc h L → ∀ (Gj : Gty) (mc ms : Nat) (X : IsG Gj l cX6_read 2 "HighSpots$Reader" D dA 80 2100 mc ms) (h0 : Hp) (hE : Ex [90, 91, 92] h0 h) (hI : ∀ v w', RdP ad ac dA tt h0 r v w' → RTi Gj cX6_read w' mc ms v) (ce sl : Nat) (hb : ce + 4 * (n + 9 - a) ≤ mc ∧ sl + 12 * (n + 9 - a) ≤ ms), TM Gj () (some ()) (wXP ad ac dA tt sc P h) ce sl 2 [(1, .int (nI 1)), (0, .ref (ac 90))] [] := by
  intro m
  induction m with
  | zero => intro t n a o0 g S0 K W u L _ _ hm; omega
  | succ m IH =>
    intro t n a o0 g S0 K W u L ht hn hm ha hK hL
    obtain ⟨a', f, p, C1, C2, F, G, e, hG, hC⟩ := cl_ok (o0 := o0) (g := g) (S0 := S0) (W := W) (u := u) ht hn ha hK hL
    have hee : e - a ≤ n + 9 - a := by
      rcases hG with ⟨g1, g2, g3, g4, g5, g6, g7, g8, g9, g10, g11⟩ | ⟨g1, g2, g3⟩ <;> omega
    have head : ∀ (h : Hp) (o : Nat), RS h n a o 0 0 → tX h = t → ∀ (l : Launch) (D : va_G) (dA : Nat → ClassId) (ad ac : Nat → Nat) (tt : (Nat → Option Nat) × (Nat → Option Nat) × va_W) (sc : (Nat → Option Nat) × (Nat → Option Nat)) (P : va_W), TB K P sc h L → ∀ (Gj : Gty) (mc ms : Nat) (X : IsG Gj l cX6_read 2 "HighSpots$Reader" D dA 80 2100 mc ms) (ce sl : Nat) (hb : ce + 4 * (e - a) ≤ mc ∧ sl + 12 * (e - a) ≤ ms), (∀ h' P' sc', QK h sc n (hc t n a) L.length a' f p F G h' P' sc' → TM Gj () (some ()) (wXP ad ac dA tt sc' (P' ++ P) h') (ce + 4 * (e - a)) (sl + 12 * (e - a)) 17 [(1, .int (nI 1)), (0, .ref (ac 90))] []) → TM Gj () (some ()) (wXP ad ac dA tt sc P h) ce sl 2 [(1, .int (nI 1)), (0, .ref (ac 90))] [] := by
      intro h o R0 et l D dA ad ac tt sc P hT Gj mc ms X ce sl hb k
      refine tm_iload_n X 0 dX6_read_2 rfl rfl ?_
      refine tm_if_eqF X 54 (by decide) dX6_read_3 rfl ?_
      refine tm_aload_n X 1 dX6_read_6 rfl rfl ?_
      refine tm_risGood X (Y_good R0) ⟨by omega, by omega⟩ (Nat.le_of_ble_eq_true rfl) dX6_read_7 ⟨by omega, by omega⟩ ?_
      refine tm_if_eqF X 54 (by decide) dX6_read_10 rfl ?_
      refine tm_aload_n X 1 dX6_read_13 rfl rfl ?_
      exact tm_rclause X (hC h o R0 et hT.1 l D dA ad ac tt sc) ⟨by decide, by decide⟩ (Nat.le_of_ble_eq_true rfl) dX6_read_14 hb k
    rcases hG with ⟨g1, g2, g3, g4, ⟨u', g5⟩, g6, g7, g8, g9, g10, g11⟩ | ⟨g1, g2, g3⟩
    · subst g1 g2
      -- the tables behind the clause
      have tab : ∀ (h h' : Hp) (sc sc' : (Nat → Option Nat) × (Nat → Option Nat)) (P P' : va_W), TB K P sc h L → QK h sc n (hc t n a) L.length a' 0 0 F G h' P' sc' → TB (K ++ (C1 ++ C2)) (P' ++ P) sc' h' (L ++ [(hc t n a, K.length, K.length + C1.length, K.length + C1.length + C2.length)]) := by
        intro h h' sc sc' P P' hT hQ
        obtain ⟨q1, q2, q3⟩ := hQ
        obtain ⟨k1, k2, ⟨y, k3, k4⟩, k5⟩ := q3 rfl
        refine ⟨by rw [k1, List.length_append]; rfl, fun i z hz => ?_⟩
        by_cases ci : i < L.length
        · rw [List.getElem?_append_left ci] at hz
          obtain ⟨t1, F9, G9, ⟨y9, t2, t3⟩, t4, t5⟩ := hT.2 i z hz
          refine ⟨by rw [k2, upd_n (by omega)]; exact t1, F9, G9, ⟨y9, by rw [k3, va_up_ne _ _ (by omega)]; exact t2, CDn_m t3 (Nat.le_refl _) (fun w hw => List.mem_append_right _ hw)⟩, SgK_a t4, ?_⟩
          rcases t5 with t5 | ⟨⟨x, fs, t6, t7, t8⟩, t9⟩
          · exact Or.inl t5
          · refine Or.inr ⟨⟨x, fs, ?_, SDn_m t7 (Nat.le_refl _) (fun w hw => List.mem_append_right _ hw), List.mem_append_right _ t8⟩, SgK_a t9⟩
            rcases k5 with ⟨_, k5⟩ | ⟨_, x9, fs9, k5, _⟩ <;> rw [k5, va_up_ne _ _ (by omega)] <;> exact t6
        · rw [List.getElem?_append_right (by omega)] at hz
          have hi : i = L.length := by
            have := (List.getElem?_eq_some_iff.mp hz).1
            simp at this
            omega
          subst hi
          rw [Nat.sub_self] at hz
          cases hz
          have sgG : SgK (K ++ (C1 ++ C2)) (K.length + C1.length) (K.length + C1.length + C2.length) G := by
            have := SgK_i (K := K) (A := C1) (B := C2) (C := []) (by rw [List.length_append]) g7
            rw [List.append_nil] at this
            exact this
          refine ⟨by rw [k2, upd_e], F, G, ⟨y, by rw [k3, va_up_self], CDn_m k4 (Nat.le_refl _) (fun w hw => List.mem_append_left _ hw)⟩, sgG, ?_⟩
          rcases k5 with ⟨k5, _⟩ | ⟨k5, x, fs, k6, k7, k8⟩
          · exact Or.inl k5
          · refine Or.inr ⟨⟨x, fs, by rw [k6, va_up_self], SDn_m k7 (Nat.le_refl _) (fun w hw => List.mem_append_left _ hw), List.mem_append_left _ k8⟩, ?_⟩
            have := SgK_i (K := K) (A := []) (B := C1) (C := C2) (b := K.length) (by rw [List.append_nil]) (g6 k5)
            rw [List.nil_append] at this
            exact this
      have hkl : (K ++ (C1 ++ C2)).length ≤ a' := by
        simp only [List.length_append]
        omega
      have hll : (L ++ [(hc t n a, K.length, K.length + C1.length, K.length + C1.length + C2.length)]).length = L.length + 1 := by
        rw [List.length_append]
        rfl
      by_cases cn : n ≤ a'
      · have ez : zS t n (7, a', 0, [], K ++ (C1 ++ C2), (0, [], u', L ++ [(hc t n a, K.length, K.length + C1.length, K.length + C1.length + C2.length)])) = .inl (.inr (K ++ (C1 ++ C2), L ++ [(hc t n a, K.length, K.length + C1.length, K.length + C1.length + C2.length)])) := by
          show zL t n a' _ _ = _
          unfold zL
          rw [if_pos cn]
        refine ⟨_, g5 _ (Hz_s ez), fun K' L' e => by cases e; omega, ?_⟩
        intro h o R0 et l D dA ad ac tt sc P hT Gj mc ms X h0 hE hI ce sl hb
        refine head h o R0 et l D dA ad ac tt sc P hT Gj mc ms X ce sl ⟨by omega, by omega⟩ (fun h' P' sc' hQ => ?_)
        have hT2 := tab h h' sc sc' P P' hT hQ
        obtain ⟨q1, ⟨o', q2⟩, q3⟩ := hQ
        refine tm_aload_n X 1 dX6_read_17 rfl rfl ?_
        refine tm_risGood X (Y_good q2) ⟨by omega, by omega⟩ (Nat.le_of_ble_eq_true rfl) dX6_read_18 ⟨by omega, by omega⟩ ?_
        refine tm_if_eqF X 39 (by decide) dX6_read_21 rfl ?_
        refine tm_aload_n X 1 dX6_read_24 rfl rfl ?_
        refine tm_rat X dX6_read_25 ?_
        refine tm_aload_n X 1 dX6_read_28 rfl rfl ?_
        refine tm_rn X dX6_read_29 ?_
        rw [q2.1, q2.2.1]
        refine tm_ic_geT X 39 (nI_le cn (by omega)) dX6_read_32 rfl ?_
        refine tm_iconst X (0 : Int32) dX6_read_39 (by decide) ?_
        refine tm_istore_n X [(1, .int 0), (0, .ref (ac 90))] dX6_read_40 rfl (Nat.le_of_ble_eq_true rfl) rfl ?_
        refine tm_iload_n X 0 dX6_read_41 rfl rfl ?_
        refine tm_if_eqT X 2 (rfl) dX6_read_42 rfl ?_
        refine tm_iload_n X 0 dX6_read_2 rfl rfl ?_
        refine tm_if_eqT X 54 (rfl) dX6_read_3 rfl ?_
        refine tm_lv X [1] rfl ?_
        exact rd_end q2 (by omega) l D dA ad ac tt sc' Gj mc ms X (Ex_tt hE q1) hI hT2 _ _ ⟨by omega, by omega⟩
      · have h2 := hc_lt ht n a'
        by_cases c59 : hc t n a' = 59
        · have ez : zS t n (7, a', 0, [], K ++ (C1 ++ C2), (0, [], u', L ++ [(hc t n a, K.length, K.length + C1.length, K.length + C1.length + C2.length)])) = .inr (0, a' + 1, 0, [], K ++ (C1 ++ C2), (0, [], u', L ++ [(hc t n a, K.length, K.length + C1.length, K.length + C1.length + C2.length)])) := by
            show zL t n a' _ _ = _
            unfold zL
            rw [if_neg cn, if_pos c59]
          obtain ⟨r, r1, r2, r3⟩ := IH t n (a' + 1) 0 0 [] (K ++ (C1 ++ C2)) [] u' (L ++ [(hc t n a, K.length, K.length + C1.length, K.length + C1.length + C2.length)]) ht hn (by omega) (by omega) (by omega) (by omega)
          refine ⟨r, g5 _ (Rn_s ez _ r1), r2, ?_⟩
          intro h o R0 et l D dA ad ac tt sc P hT Gj mc ms X h0 hE hI ce sl hb
          refine head h o R0 et l D dA ad ac tt sc P hT Gj mc ms X ce sl ⟨by omega, by omega⟩ (fun h' P' sc' hQ => ?_)
          have hT2 := tab h h' sc sc' P P' hT hQ
          obtain ⟨q1, ⟨o', q2⟩, q3⟩ := hQ
          have em := Y_must q2 (c := 59) (by decide)
          rw [tX_3 q1 et, if_pos c59] at em
          refine tm_aload_n X 1 dX6_read_17 rfl rfl ?_
          refine tm_risGood X (Y_good q2) ⟨by omega, by omega⟩ (Nat.le_of_ble_eq_true rfl) dX6_read_18 ⟨by omega, by omega⟩ ?_
          refine tm_if_eqF X 39 (by decide) dX6_read_21 rfl ?_
          refine tm_aload_n X 1 dX6_read_24 rfl rfl ?_
          refine tm_rat X dX6_read_25 ?_
          refine tm_aload_n X 1 dX6_read_28 rfl rfl ?_
          refine tm_rn X dX6_read_29 ?_
          rw [q2.1, q2.2.1]
          refine tm_ic_geF X 39 (nI_ge (by omega) (by omega)) dX6_read_32 rfl ?_
          refine tm_iconst X (nI 1) dX6_read_35 (by decide) ?_
          refine tm_goto X 40 dX6_read_36 rfl ?_
          refine tm_istore_n X [(1, .int (nI 1)), (0, .ref (ac 90))] dX6_read_40 rfl (Nat.le_of_ble_eq_true rfl) rfl ?_
          refine tm_iload_n X 0 dX6_read_41 rfl rfl ?_
          refine tm_if_eqF X 2 (by decide) dX6_read_42 rfl ?_
          refine tm_aload_n X 1 dX6_read_45 rfl rfl ?_
          refine tm_bipush X (59 : Int32) dX6_read_46 (by decide) ?_
          refine tm_rmust X (em) ⟨by omega, by omega⟩ (Nat.le_of_ble_eq_true rfl) dX6_read_48 ⟨by omega, by omega⟩ ?_
          refine tm_goto X 2 dX6_read_51 rfl ?_
          exact r3 (yA h') o' (RS_A q2 (by omega)) (show tX h' = t from tX_3 q1 et) l D dA ad ac tt sc' (P' ++ P) hT2 Gj mc ms X h0 (Ex_tt hE (Ex_tt q1 (Ex_3 (Ex_yA (Ex_r _ _))))) hI _ _ ⟨by omega, by omega⟩
        · have ez : zS t n (7, a', 0, [], K ++ (C1 ++ C2), (0, [], u', L ++ [(hc t n a, K.length, K.length + C1.length, K.length + C1.length + C2.length)])) = .inl (.inl (1, a')) := by
            show zL t n a' _ _ = _
            unfold zL
            rw [if_neg cn, if_neg c59]
          refine ⟨_, g5 _ (Hz_s ez), (fun K' L' e => by cases e), ?_⟩
          intro h o R0 et l D dA ad ac tt sc P hT Gj mc ms X h0 hE hI ce sl hb
          refine head h o R0 et l D dA ad ac tt sc P hT Gj mc ms X ce sl ⟨by omega, by omega⟩ (fun h' P' sc' hQ => ?_)
          obtain ⟨q1, ⟨o', q2⟩, q3⟩ := hQ
          have em := Y_must q2 (c := 59) (by decide)
          rw [tX_3 q1 et, if_neg c59] at em
          have q4 := RS_A (RS_F q2 (w := 1) (q := a') (by decide)) (by omega)
          refine tm_aload_n X 1 dX6_read_17 rfl rfl ?_
          refine tm_risGood X (Y_good q2) ⟨by omega, by omega⟩ (Nat.le_of_ble_eq_true rfl) dX6_read_18 ⟨by omega, by omega⟩ ?_
          refine tm_if_eqF X 39 (by decide) dX6_read_21 rfl ?_
          refine tm_aload_n X 1 dX6_read_24 rfl rfl ?_
          refine tm_rat X dX6_read_25 ?_
          refine tm_aload_n X 1 dX6_read_28 rfl rfl ?_
          refine tm_rn X dX6_read_29 ?_
          rw [q2.1, q2.2.1]
          refine tm_ic_geF X 39 (nI_ge (by omega) (by omega)) dX6_read_32 rfl ?_
          refine tm_iconst X (nI 1) dX6_read_35 (by decide) ?_
          refine tm_goto X 40 dX6_read_36 rfl ?_
          refine tm_istore_n X [(1, .int (nI 1)), (0, .ref (ac 90))] dX6_read_40 rfl (Nat.le_of_ble_eq_true rfl) rfl ?_
          refine tm_iload_n X 0 dX6_read_41 rfl rfl ?_
          refine tm_if_eqF X 2 (by decide) dX6_read_42 rfl ?_
          refine tm_aload_n X 1 dX6_read_45 rfl rfl ?_
          refine tm_bipush X (59 : Int32) dX6_read_46 (by decide) ?_
          refine tm_rmust X (em) ⟨by omega, by omega⟩ (Nat.le_of_ble_eq_true rfl) dX6_read_48 ⟨by omega, by omega⟩ ?_
          refine tm_goto X 2 dX6_read_51 rfl ?_
          refine tm_iload_n X 0 dX6_read_2 rfl rfl ?_
          refine tm_if_eqF X 54 (by decide) dX6_read_3 rfl ?_
          refine tm_aload_n X 1 dX6_read_6 rfl rfl ?_
          refine tm_risGood X (Y_ill q4 (by decide)) ⟨by omega, by omega⟩ (Nat.le_of_ble_eq_true rfl) dX6_read_7 ⟨by omega, by omega⟩ ?_
          refine tm_if_eqT X 54 (rfl) dX6_read_10 rfl ?_
          refine tm_lv X [1] rfl ?_
          exact rd_ill q4 (by decide) l D dA ad ac tt sc' Gj mc ms X (Ex_tt hE (Ex_tt q1 (Ex_3 (Ex_yA (Ex_yF (Ex_r _ _)))))) hI _ _ ⟨by omega, by omega⟩
    · subst g3
      refine ⟨_, g2, (fun K' L' e => by cases e), ?_⟩
      intro h o R0 et l D dA ad ac tt sc P hT Gj mc ms X h0 hE hI ce sl hb
      refine head h o R0 et l D dA ad ac tt sc P hT Gj mc ms X ce sl ⟨by omega, by omega⟩ (fun h' P' sc' hQ => ?_)
      obtain ⟨q1, ⟨o', q2⟩, q3⟩ := hQ
      refine tm_aload_n X 1 dX6_read_17 rfl rfl ?_
      refine tm_risGood X (Y_ill q2 g1) ⟨by omega, by omega⟩ (Nat.le_of_ble_eq_true rfl) dX6_read_18 ⟨by omega, by omega⟩ ?_
      refine tm_if_eqT X 39 (rfl) dX6_read_21 rfl ?_
      refine tm_iconst X (0 : Int32) dX6_read_39 (by decide) ?_
      refine tm_istore_n X [(1, .int 0), (0, .ref (ac 90))] dX6_read_40 rfl (Nat.le_of_ble_eq_true rfl) rfl ?_
      refine tm_iload_n X 0 dX6_read_41 rfl rfl ?_
      refine tm_if_eqT X 2 (rfl) dX6_read_42 rfl ?_
      refine tm_iload_n X 0 dX6_read_2 rfl rfl ?_
      refine tm_if_eqT X 54 (rfl) dX6_read_3 rfl ?_
      refine tm_lv X [1] rfl ?_
      exact rd_ill q2 g1 l D dA ad ac tt sc' Gj mc ms X (Ex_tt hE q1) hI _ _ ⟨by omega, by omega⟩
