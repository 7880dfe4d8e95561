/-! the call law of the class -/
set_option maxRecDepth 100000
def adL (ad ac : Nat → Nat) : Nat → Nat := fun k => if k = 70 then ac 91 else if k = 71 then ac 92 else if k = 72 then ac 93 else if k = 73 then ac 94 else ad k
def hL (h : Hp) : Hp := fun k => if k = 70 then h 91 else if k = 71 then h 92 else h k
theorem perm_3 {α : Type} (A B C : List α) : (A ++ B ++ C).Perm (A ++ C ++ B) := by
  rw [List.append_assoc, List.append_assoc]
  exact List.Perm.append_left A List.perm_append_comm
theorem law_p (ad ac : Nat → Nat) (dA : Nat → ClassId) (tt : (Nat → Option Nat) × (Nat → Option Nat) × va_W) (sc : (Nat → Option Nat) × (Nat → Option Nat)) (P : va_W) (h : Hp) : (((((wXP ad ac dA tt sc P h).set 0 (ad 100, .inr (0, [.ref (ad 30), .ref (ad 1), .ref (ad 2), .ref (ad 3), .int (h 100 4), .ref (ad 40), .ref (ad 50), .ref (ad 60), .ref (ad 8), .ref (ac 91), .int (h 100 10), .int (h 100 11), .ref (ad 12), .ref (ad 13), .ref (ad 14), .ref (ad 15), .ref (ad 16), .ref (ad 17), .ref (ad 18), .ref (ad 19), .ref (ad 20)]))).set 4 ((ad 41), .inl (dA 3, 2, .inr (.inr (.inr (.inr (fun i => some (adL ad ac (42 + i))))))))).set 9 ((ad 51), .inl (dA 3, 2, .inr (.inr (.inr (.inr (fun i => some (adL ad ac (52 + i))))))))).set 14 ((ad 61), .inl (dA 3, 2, .inr (.inr (.inr (.inr (fun i => some (adL ad ac (62 + i))))))))).Perm (wX (adL ad ac) dA (sc.1, sc.2, P) (hL h) ++ ([((ad 70), .inr (3, [.ref (ad 71), .ref (ad 72), .ref (ad 73), .int (h 70 3)])), ((ad 71), .inl (dA 0, 16, .inl (h 71))), ((ad 72), .inl (dA 4, 16, .inr (.inr (.inr (.inr tt.1))))), ((ad 73), .inl (dA 5, 16, .inr (.inr (.inr (.inr tt.2.1)))))] ++ tt.2.2 ++ [((ac 90), .inr (5, [.int (h 90 0), .ref (ac 91), .int (h 90 2), .int (h 90 3), .int (h 90 4), .int (h 90 5), .ref (ad 100)]))])) := by
  have e1 : (((((wXP ad ac dA tt sc P h).set 0 (ad 100, .inr (0, [.ref (ad 30), .ref (ad 1), .ref (ad 2), .ref (ad 3), .int (h 100 4), .ref (ad 40), .ref (ad 50), .ref (ad 60), .ref (ad 8), .ref (ac 91), .int (h 100 10), .int (h 100 11), .ref (ad 12), .ref (ad 13), .ref (ad 14), .ref (ad 15), .ref (ad 16), .ref (ad 17), .ref (ad 18), .ref (ad 19), .ref (ad 20)]))).set 4 ((ad 41), .inl (dA 3, 2, .inr (.inr (.inr (.inr (fun i => some (adL ad ac (42 + i))))))))).set 9 ((ad 51), .inl (dA 3, 2, .inr (.inr (.inr (.inr (fun i => some (adL ad ac (52 + i))))))))).set 14 ((ad 61), .inl (dA 3, 2, .inr (.inr (.inr (.inr (fun i => some (adL ad ac (62 + i))))))))) = [((ad 100), .inr (0, [.ref (ad 30), .ref (ad 1), .ref (ad 2), .ref (ad 3), .int (h 100 4), .ref (ad 40), .ref (ad 50), .ref (ad 60), .ref (ad 8), .ref (ac 91), .int (h 100 10), .int (h 100 11), .ref (ad 12), .ref (ad 13), .ref (ad 14), .ref (ad 15), .ref (ad 16), .ref (ad 17), .ref (ad 18), .ref (ad 19), .ref (ad 20)])), ((ad 30), .inr (1, [.ref (ad 31), .int (h 30 1)])), ((ad 31), .inl (dA 0, 128, .inl (h 31))), ((ad 40), .inr (2, [.ref (ad 41), .ref (ad 44), .int (h 40 2), .int (h 40 3), .int (h 40 4), .ref (ad 100)])), ((ad 41), .inl (dA 3, 2, .inr (.inr (.inr (.inr (fun i => some (adL ad ac (42 + i)))))))), ((ad 42), .inl (dA 0, 48, .inl (h 42))), ((ad 43), .inl (dA 0, 48, .inl (h 43))), ((ad 44), .inl (dA 0, 2, .inl (h 44))), ((ad 50), .inr (2, [.ref (ad 51), .ref (ad 54), .int (h 50 2), .int (h 50 3), .int (h 50 4), .ref (ad 100)])), ((ad 51), .inl (dA 3, 2, .inr (.inr (.inr (.inr (fun i => some (adL ad ac (52 + i)))))))), ((ad 52), .inl (dA 0, 48, .inl (h 52))), ((ad 53), .inl (dA 0, 48, .inl (h 53))), ((ad 54), .inl (dA 0, 2, .inl (h 54))), ((ad 60), .inr (2, [.ref (ad 61), .ref (ad 64), .int (h 60 2), .int (h 60 3), .int (h 60 4), .ref (ad 100)])), ((ad 61), .inl (dA 3, 2, .inr (.inr (.inr (.inr (fun i => some (adL ad ac (62 + i)))))))), ((ad 62), .inl (dA 0, 48, .inl (h 62))), ((ad 63), .inl (dA 0, 48, .inl (h 63))), ((ad 64), .inl (dA 0, 2, .inl (h 64))), ((ad 1), .inl (dA 1, 48, .inl (h 1))), ((ad 2), .inl (dA 1, 48, .inl (h 2))), ((ad 3), .inl (dA 0, 48, .inl (h 3))), ((ad 8), .inl (dA 2, 260, .inl (h 8))), ((ad 12), .inl (dA 0, 63, .inl (h 12))), ((ad 13), .inl (dA 0, 63, .inl (h 13))), ((ad 14), .inl (dA 0, 63, .inl (h 14))), ((ad 15), .inl (dA 0, 63, .inl (h 15))), ((ad 16), .inl (dA 1, 48, .inl (h 16))), ((ad 17), .inl (dA 0, 48, .inl (h 17))), ((ad 18), .inl (dA 0, 48, .inl (h 18))), ((ad 19), .inl (dA 0, 48, .inl (h 19))), ((ad 20), .inl (dA 0, 48, .inl (h 20)))] ++ ([((ad 70), .inr (3, [.ref (ad 71), .ref (ad 72), .ref (ad 73), .int (h 70 3)])), ((ad 71), .inl (dA 0, 16, .inl (h 71))), ((ad 72), .inl (dA 4, 16, .inr (.inr (.inr (.inr tt.1))))), ((ad 73), .inl (dA 5, 16, .inr (.inr (.inr (.inr tt.2.1)))))] ++ tt.2.2 ++ [((ac 90), .inr (5, [.int (h 90 0), .ref (ac 91), .int (h 90 2), .int (h 90 3), .int (h 90 4), .int (h 90 5), .ref (ad 100)]))]) ++ ([((ac 91), .inr (3, [.ref (ac 92), .ref (ac 93), .ref (ac 94), .int (h 91 3)])), ((ac 92), .inl (dA 0, 16, .inl (h 92))), ((ac 93), .inl (dA 4, 16, .inr (.inr (.inr (.inr sc.1))))), ((ac 94), .inl (dA 5, 16, .inr (.inr (.inr (.inr sc.2)))))] ++ P) := by
    unfold wXP wXR wX wR0
    simp only [List.append_assoc, List.cons_append, List.nil_append, List.set_cons_zero, List.set_cons_succ]
  have e2 : wX (adL ad ac) dA (sc.1, sc.2, P) (hL h) = [((ad 100), .inr (0, [.ref (ad 30), .ref (ad 1), .ref (ad 2), .ref (ad 3), .int (h 100 4), .ref (ad 40), .ref (ad 50), .ref (ad 60), .ref (ad 8), .ref (ac 91), .int (h 100 10), .int (h 100 11), .ref (ad 12), .ref (ad 13), .ref (ad 14), .ref (ad 15), .ref (ad 16), .ref (ad 17), .ref (ad 18), .ref (ad 19), .ref (ad 20)])), ((ad 30), .inr (1, [.ref (ad 31), .int (h 30 1)])), ((ad 31), .inl (dA 0, 128, .inl (h 31))), ((ad 40), .inr (2, [.ref (ad 41), .ref (ad 44), .int (h 40 2), .int (h 40 3), .int (h 40 4), .ref (ad 100)])), ((ad 41), .inl (dA 3, 2, .inr (.inr (.inr (.inr (fun i => some (adL ad ac (42 + i)))))))), ((ad 42), .inl (dA 0, 48, .inl (h 42))), ((ad 43), .inl (dA 0, 48, .inl (h 43))), ((ad 44), .inl (dA 0, 2, .inl (h 44))), ((ad 50), .inr (2, [.ref (ad 51), .ref (ad 54), .int (h 50 2), .int (h 50 3), .int (h 50 4), .ref (ad 100)])), ((ad 51), .inl (dA 3, 2, .inr (.inr (.inr (.inr (fun i => some (adL ad ac (52 + i)))))))), ((ad 52), .inl (dA 0, 48, .inl (h 52))), ((ad 53), .inl (dA 0, 48, .inl (h 53))), ((ad 54), .inl (dA 0, 2, .inl (h 54))), ((ad 60), .inr (2, [.ref (ad 61), .ref (ad 64), .int (h 60 2), .int (h 60 3), .int (h 60 4), .ref (ad 100)])), ((ad 61), .inl (dA 3, 2, .inr (.inr (.inr (.inr (fun i => some (adL ad ac (62 + i)))))))), ((ad 62), .inl (dA 0, 48, .inl (h 62))), ((ad 63), .inl (dA 0, 48, .inl (h 63))), ((ad 64), .inl (dA 0, 2, .inl (h 64))), ((ad 1), .inl (dA 1, 48, .inl (h 1))), ((ad 2), .inl (dA 1, 48, .inl (h 2))), ((ad 3), .inl (dA 0, 48, .inl (h 3))), ((ad 8), .inl (dA 2, 260, .inl (h 8))), ((ad 12), .inl (dA 0, 63, .inl (h 12))), ((ad 13), .inl (dA 0, 63, .inl (h 13))), ((ad 14), .inl (dA 0, 63, .inl (h 14))), ((ad 15), .inl (dA 0, 63, .inl (h 15))), ((ad 16), .inl (dA 1, 48, .inl (h 16))), ((ad 17), .inl (dA 0, 48, .inl (h 17))), ((ad 18), .inl (dA 0, 48, .inl (h 18))), ((ad 19), .inl (dA 0, 48, .inl (h 19))), ((ad 20), .inl (dA 0, 48, .inl (h 20)))] ++ ([((ac 91), .inr (3, [.ref (ac 92), .ref (ac 93), .ref (ac 94), .int (h 91 3)])), ((ac 92), .inl (dA 0, 16, .inl (h 92))), ((ac 93), .inl (dA 4, 16, .inr (.inr (.inr (.inr sc.1))))), ((ac 94), .inl (dA 5, 16, .inr (.inr (.inr (.inr sc.2)))))] ++ P) := rfl
  rw [e1, e2]
  exact perm_3 _ _ _
theorem law_drop (ad ac : Nat → Nat) (dA : Nat → ClassId) (tt : (Nat → Option Nat) × (Nat → Option Nat) × va_W) (sc : (Nat → Option Nat) × (Nat → Option Nat)) (P : va_W) (h : Hp) : wXP ad ac dA tt sc P h = wX ad dA tt h ++ (wR0 ad ac dA sc h ++ P) := by
  unfold wXP wXR
  rw [List.append_assoc]
theorem cyX6_read : Callee yX6_read 0 := by unfold Callee; decide +kernel
def s00 : Zs := (0, 0, 0, [], [], (0, [], (0, 0, 0), []))
def LwP (dA : Nat → ClassId) (ad : Nat → Nat) (tt : (Nat → Option Nat) × (Nat → Option Nat) × va_W) (h : Hp) (r : Zr) : Option Value → va_W → Prop := fun rv w' => ∃ v, rv = some (.int v) ∧ ∃ ad' tt' hx', w' = wX ad' dA tt' hx' ∧ ad' 100 = ad 100 ∧ hx' 100 = upd (h 100) 10 0 ∧ match r with
  | .inl (f, p) => v = -1000 * nI f - nI p ∧ tt' = tt ∧ ∀ k, k ∉ [90, 91, 92, 100] → hx' k = h k
  | .inr (K, L) => v = nI L.length ∧ L.length ≤ 16 ∧ (∀ k, k ∉ [70, 71, 90, 91, 92, 100] → hx' k = h k) ∧ hx' 70 3 = nI L.length ∧ (∀ i z, L[i]? = some z → hx' 71 i = nI z.1 ∧ ClR K tt'.2.2 (tt'.1, tt'.2.1) i z) ∧ Dst tt'.2.2
theorem X_law {h : Hp} {n t0 : Nat} (h1 : 1 ≤ n) (hn : n ≤ 240) (h10 : h 100 10 = nI t0) (hnt : n ≤ t0) (ht0 : t0 ≤ 260) : ∃ r, Hz (tX h) n s00 r ∧ (∀ K' L', r = .inr (K', L') → K'.length ≤ 240) ∧ ∀ (l : Launch) (D : va_G) (dA : Nat → ClassId) (ad : Nat → Nat) (tt : (Nat → Option Nat) × (Nat → Option Nat) × va_W), CTE l yX0_law cX0_law 4 (some .int) D dA 100 2300 4000 12000 (wX ad dA tt h) [.ref (ad 100), .int (nI n)] (LwP dA ad tt h r) := by
  obtain ⟨r, r1, r2, r3⟩ := rd_ok (n + 1) (tX h) n 0 0 0 [] [] [] (0, 0, 0) [] (fun i => oct_lt _) hn (by omega) (by omega) (by simp) (by simp)
  refine ⟨r, r1, r2, ?_⟩
  intro l D dA ad tt
  -- what read leaves
  have rd : ∀ ac, CTE l yX6_read cX6_read 2 (some .int) D dA 80 2100 (4 * (n + 9)) (12 * (n + 9)) (wXR ad ac dA tt (fun _ => none, fun _ => none) (hR0 (u2 h 100 10 0) (nI n))) [.ref (ac 90)] (fun rv w' => ∃ v, rv = some (.int v) ∧ RdP ad ac dA tt (hR0 (u2 h 100 10 0) (nI n)) r v w') := by
    intro ac
    refine ct_openE (by decide) (Nat.le_of_ble_eq_true rfl) ?_
    intro Gj X _ hI _ _
    refine (show TM Gj () (some ()) (wXR ad ac dA tt (fun _ => none, fun _ => none) (hR0 (u2 h 100 10 0) (nI n))) 0 0 0 [(0, .ref (ac 90))] [] from ?_) rfl
    refine tm_w0 X ?_
    refine tm_iconst X (nI 1) dX6_read_0 (by decide) ?_
    refine tm_istore_n X [(1, .int (nI 1)), (0, .ref (ac 90))] dX6_read_1 rfl (Nat.le_of_ble_eq_true rfl) rfl ?_
    exact r3 (hR0 (u2 h 100 10 0) (nI n)) 0 ⟨rfl, rfl, rfl, rfl, rfl, hn, by omega, by omega, by omega, by omega⟩ rfl l D dA ad ac tt _ [] ⟨rfl, fun i z hz => by cases hz⟩ Gj _ _ X _ (Ex_r _ _) (fun v w' hq => hI rfl v w' ⟨v, rfl, hq⟩) 0 0 ⟨by omega, by omega⟩
  refine ct_openE (by decide) (Nat.le_of_ble_eq_true rfl) ?_
  intro Gj X _ hI _ _
  have hI := hI rfl
  refine (show TM Gj () (some ()) (wX ad dA tt h) 0 0 0 [(0, .ref (ad 100)), (1, .int (nI n))] [] from ?_) rfl
  have ew : mX0_within (nI n) 1 240 = some 1 := by
    rw [X_wi1 (nI n) 240 240 (by decide), show nI n - 1 = nI (n - 1) from nI_subn (b := 1) h1, nR_s (by omega) (by omega)]
    rfl
  refine tm_iload_n X 1 dX0_law_0 rfl rfl ?_
  refine tm_iconst X (1 : Int32) dX0_law_1 (by decide) ?_
  refine tm_sipush X (240 : Int32) dX0_law_2 (by decide) ?_
  refine tm_callSi (As := [.int (nI n), .int (1 : Int32), .int (240 : Int32)]) (rest := []) X (ctX0_within l D dA (nI n) (1 : Int32) (240 : Int32) 1 ew) (lw_S q317 q318 q117 q319) cyX0_within rfl ⟨(Nat.le_of_ble_eq_true rfl), (Nat.le_of_ble_eq_true rfl)⟩ (Nat.le_of_ble_eq_true rfl) dX0_law_5 ⟨Nat.le_of_ble_eq_true rfl, Nat.le_of_ble_eq_true rfl⟩ rfl ?_
  refine tm_if_eqF X 19 (by decide) dX0_law_8 rfl ?_
  refine tm_iload_n X 1 dX0_law_11 rfl rfl ?_
  refine tm_aload_n X 0 dX0_law_12 rfl rfl ?_
  refine tm_getI X (fiX_100_10 ad dA tt) in_X0 rfl (Nat.le_of_ble_eq_true rfl) q250 rfl dX0_law_13 ?_
  rw [h10]
  have kle := tm_ic_le (M1 := some ()) (M2 := none) (res := ()) X (x := nI n) (y := nI t0) (w := wX ad dA tt h) (ce := 0) (sl := 0) (lv := [(0, .ref (ad 100)), (1, .int (nI n))]) (st := []) 21 dX0_law_16 rfl ?_ tm_none
  · rw [if_pos (nI_le hnt (by omega))] at kle
    exact kle
  refine tm_aload_n X 0 dX0_law_21 rfl rfl ?_
  refine tm_iconst X (0 : Int32) dX0_law_22 (by decide) ?_
  refine tm_putIe X (fiX_100_10 ad dA tt) in_X0 rfl (Nat.le_of_ble_eq_true rfl) tyX0 tyX0_ok nmX0 rfl rfl q250 rfl dX0_law_23 ?_
  refine tm_new (ci := 5) X tyX6 in_X6 tyX6_ok q336 q337 q123 rfl [.int 0, .null, .int 0, .int 0, .int 0, .int 0, .null] df_X6 ⟨by omega, by omega⟩ dX0_law_26 (fun q4 => ?_)
  refine tm_dup X dX0_law_29 rfl ?_
  refine tm_aload_n X 0 dX0_law_30 rfl rfl ?_
  refine tm_iload_n X 1 dX0_law_31 rfl rfl ?_
  refine tm_callIE (As := [.ref (ad 100), .int (nI n)]) (rest := [.ref q4]) (wr := wX ad dA tt (u2 h 100 10 0)) X (ceX6_init l D dA q4 ad (u2 h 100 10 0) (nI n)) q338 q339 q123 q340 rfl cyX6_init rfl ⟨(Nat.le_of_ble_eq_true rfl), (Nat.le_of_ble_eq_true rfl)⟩ (Nat.le_of_ble_eq_true rfl) dX0_law_32 ⟨by omega, by omega⟩ rfl rfl ?_
  rintro _ _ ⟨rfl, ac, hac, rfl⟩
  subst hac
  refine tm_same (w' := wXR ad ac dA tt (fun _ => none, fun _ => none) (hR0 (u2 h 100 10 0) (nI n)) ++ []) (pc' := 35) (st' := [.ref (ac 90)]) rfl (List.append_nil _).symm rfl rfl rfl ?_
  refine tm_astore_n X [(2, .ref (ac 90)), (0, .ref (ad 100)), (1, .int (nI n))] dX0_law_35 rfl (Nat.le_of_ble_eq_true rfl) rfl ?_
  refine tm_aload_n X 0 dX0_law_36 rfl rfl ?_
  refine tm_callVFE (As := []) (rest := []) (wr := []) X (rd ac) (lw_V q367 q368 q369 q123 q370) cyX6_read rfl (Classical.choose_spec (obXR_90 ad ac dA tt _ _)) rfl ⟨(Nat.le_of_ble_eq_true rfl), (Nat.le_of_ble_eq_true rfl)⟩ (Nat.le_of_ble_eq_true rfl) dX0_law_37 ⟨by omega, by omega⟩ rfl ?_
  rintro _ _ ⟨v, rfl, h', P, sc, rfl, hE, hr⟩
  rw [List.append_nil]
  have E100 : h' 100 = upd (h 100) 10 0 := by
    rw [hE 100 (by decide)]
    rfl
  have Ek : ∀ k, k ∉ [90, 91, 92, 100] → h' k = h k := fun k hk => by
    simp only [List.mem_cons, List.not_mem_nil, or_false, not_or] at hk
    rw [hE k (by simp only [List.mem_cons, List.not_mem_nil, or_false, not_or]; exact ⟨hk.1, hk.2.1, hk.2.2.1⟩)]
    show hR0 (u2 h 100 10 0) (nI n) k = h k
    unfold hR0
    rw [if_neg hk.1, if_neg hk.2.1, if_neg hk.2.2.1, u2_n hk.2.2.2]
  show TM Gj () (some ()) (wXP ad ac dA tt sc P h') _ _ 40 [(2, .ref (ac 90)), (0, .ref (ad 100)), (1, .int (nI n))] [.int v]
  refine tm_istore_n X [(3, .int v), (2, .ref (ac 90)), (0, .ref (ad 100)), (1, .int (nI n))] dX0_law_40 rfl (Nat.le_of_ble_eq_true rfl) rfl ?_
  refine tm_iload_n X 0 dX0_law_41 rfl rfl ?_
  cases hR : r with
  | inl fp =>
    obtain ⟨f, p⟩ := fp
    rw [hR] at hr
    obtain ⟨k1, k2, k3, k4⟩ := hr
    have hneg : v < 0 := by
      rw [k1, show (-1000 : Int32) = iI (-1000) from rfl, iI_n, iI_n, iI_mul, iI_sub]
      exact (iI_lt (b := 0) (by omega) (by omega)).mpr (by omega)
    refine tm_if_ltT X 53 (hneg) dX0_law_42 rfl ?_
    refine tm_iload_n X 0 dX0_law_53 rfl rfl ?_
    refine tm_eqw X (law_drop ad ac dA tt sc P h') ?_
    refine tm_dropR X ?_
    exact tm_widen (ce' := 4000) (sl' := 12000) X (by omega) (by omega) (fun _ => hI v _ (by rw [hR]; exact ⟨v, rfl, ad, tt, h', rfl, rfl, E100, k1, rfl, Ek⟩) 54 _ dX0_law_54)
  | inr KL =>
    obtain ⟨K, L⟩ := KL
    rw [hR] at hr
    obtain ⟨k1, k2, k3, k4⟩ := hr
    have hpos : ¬ v < 0 := by
      rw [k1]
      exact nI_pos (by omega)
    refine tm_if_ltF X 53 (hpos) dX0_law_42 rfl ?_
    refine tm_aload_n X 2 dX0_law_45 rfl rfl ?_
    refine tm_aload_n X 1 dX0_law_46 rfl rfl ?_
    refine tm_getRN X (FR.left (frXR_90_1 ad ac dA tt sc h')) in_X6 rfl (Nat.le_of_ble_eq_true rfl) q346 rfl dX0_law_47 ?_
    refine tm_putV (f := 9) (v := .ref (ac 91)) (fs := [.ref (ad 30), .ref (ad 1), .ref (ad 2), .ref (ad 3), .int (h' 100 4), .ref (ad 40), .ref (ad 50), .ref (ad 60), .ref (ad 8), .ref (ad 70), .int (h' 100 10), .int (h' 100 11), .ref (ad 12), .ref (ad 13), .ref (ad 14), .ref (ad 15), .ref (ad 16), .ref (ad 17), .ref (ad 18), .ref (ad 19), .ref (ad 20)]) X 0 rfl in_X0 rfl (Nat.le_of_ble_eq_true rfl) tyX0 tyX0_ok nmX0 rfl rfl rfl rfl (Nat.le_of_ble_eq_true rfl) q249 rfl dX0_law_50 rfl ?_
    refine tm_iload_n X 0 dX0_law_53 rfl rfl ?_
    refine tm_aaCell (q := 4) (g := fun i => some (adL ad ac (42 + i))) X rfl (fun j hj => by rcases (show j = 0 ∨ j = 1 by omega) with e | e <;> subst e <;> rfl) rfl ?_
    refine tm_aaCell (q := 9) (g := fun i => some (adL ad ac (52 + i))) X rfl (fun j hj => by rcases (show j = 0 ∨ j = 1 by omega) with e | e <;> subst e <;> rfl) rfl ?_
    refine tm_aaCell (q := 14) (g := fun i => some (adL ad ac (62 + i))) X rfl (fun j hj => by rcases (show j = 0 ∨ j = 1 by omega) with e | e <;> subst e <;> rfl) rfl ?_
    refine tm_perm X (law_p ad ac dA tt sc P h') ?_
    refine tm_dst X (fun hd => ?_)
    refine tm_dropR X ?_
    have hdP : Dst P := by
      refine Dst_s ?_ hd
      refine List.Sublist.trans ?_ (List.sublist_append_left _ _)
      show P.Sublist (wX (adL ad ac) dA (sc.1, sc.2, P) (hL h'))
      unfold wX
      exact List.sublist_append_right _ _
    exact tm_widen (ce' := 4000) (sl' := 12000) X (by omega) (by omega) (fun _ => hI v _ (by
      rw [hR]
      refine ⟨v, rfl, adL ad ac, (sc.1, sc.2, P), hL h', rfl, rfl, E100, k1, k2, fun k hk => ?_, k3, k4, hdP⟩
      simp only [List.mem_cons, List.not_mem_nil, or_false, not_or] at hk
      show hL h' k = h k
      unfold hL
      rw [if_neg hk.1, if_neg hk.2.1]
      exact Ek k (by simp only [List.mem_cons, List.not_mem_nil, or_false, not_or]; exact ⟨hk.2.2.1, hk.2.2.2.1, hk.2.2.2.2.1, hk.2.2.2.2.2⟩)) 54 _ dX0_law_54)
