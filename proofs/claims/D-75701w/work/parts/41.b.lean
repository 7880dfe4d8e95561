/-! the start: classes, arrays, text constants known; the two objects made; the loop -/
set_option maxRecDepth 100000
theorem st_classes {s0 : State} {A0 : Array Value} (ht0 : ∀ w ∈ lw_tbl, w.before A0 s0 = true) : ∃ D : va_G, ∀ (k : Nat) (q : vw_C), vwCl[k]? = some q → u_Kn s0 q.1 q.2.1 q.2.2 (D.1 k) (D.2 k) := by
  obtain ⟨c0, i0, k0⟩ := u_known (C := RX0) (T := TX0) (N := 21) (n := 21) ht0 (fun w h => lw_all_tbl (in_X0 w h)) (ht0 _ (lw_all_tbl q142))
  obtain ⟨c1, i1, k1⟩ := u_known (C := RX2) (T := TX2) (N := 2) (n := 2) ht0 (fun w h => lw_all_tbl (in_X2 w h)) (ht0 _ (lw_all_tbl q150))
  obtain ⟨c2, i2, k2⟩ := u_known (C := RX3) (T := TX3) (N := 6) (n := 6) ht0 (fun w h => lw_all_tbl (in_X3 w h)) (ht0 _ (lw_all_tbl q171))
  obtain ⟨c3, i3, k3⟩ := u_known (C := RX4) (T := TX4) (N := 4) (n := 4) ht0 (fun w h => lw_all_tbl (in_X4 w h)) (ht0 _ (lw_all_tbl q204))
  obtain ⟨c4, i4, k4⟩ := u_known (C := RX5) (T := TX5) (N := 57) (n := 57) ht0 (fun w h => lw_all_tbl (in_X5 w h)) (ht0 _ (lw_all_tbl q1182))
  obtain ⟨c5, i5, k5⟩ := u_known (C := RX6) (T := TX6) (N := 7) (n := 7) ht0 (fun w h => lw_all_tbl (in_X6 w h)) (ht0 _ (lw_all_tbl q337))
  obtain ⟨c6, i6, k6⟩ := u_known (C := RX8) (T := TX8) (N := 3) (n := 3) ht0 (fun w h => lw_all_tbl (in_X8 w h)) (ht0 _ (lw_all_tbl q479))
  obtain ⟨c7, i7, k7⟩ := u_known (C := RX9) (T := TX9) (N := 1) (n := 1) ht0 (fun w h => lw_all_tbl (in_X9 w h)) (ht0 _ (lw_all_tbl q501))
  obtain ⟨c8, i8, k8⟩ := u_known (C := RX10) (T := TX10) (N := 1) (n := 1) ht0 (fun w h => lw_all_tbl (in_X10 w h)) (ht0 _ (lw_all_tbl q519))
  obtain ⟨c9, i9, k9⟩ := u_known (C := RX12) (T := TX12) (N := 3) (n := 3) ht0 (fun w h => lw_all_tbl (in_X12 w h)) (ht0 _ (lw_all_tbl q548))
  obtain ⟨c10, i10, k10⟩ := u_known (C := RX13) (T := TX13) (N := 1) (n := 1) ht0 (fun w h => lw_all_tbl (in_X13 w h)) (ht0 _ (lw_all_tbl q558))
  obtain ⟨c11, i11, k11⟩ := u_known (C := RX14) (T := TX14) (N := 3) (n := 3) ht0 (fun w h => lw_all_tbl (in_X14 w h)) (ht0 _ (lw_all_tbl q571))
  obtain ⟨c12, i12, k12⟩ := u_known (C := RX16) (T := TX16) (N := 9) (n := 9) ht0 (fun w h => lw_all_tbl (in_X16 w h)) (ht0 _ (lw_all_tbl q606))
  obtain ⟨c13, i13, k13⟩ := u_known (C := RX17) (T := TX17) (N := 9) (n := 9) ht0 (fun w h => lw_all_tbl (in_X17 w h)) (ht0 _ (lw_all_tbl q729))
  refine ⟨(fun k => if k = 0 then c0 else if k = 1 then c1 else if k = 2 then c2 else if k = 3 then c3 else if k = 4 then c4 else if k = 5 then c5 else if k = 6 then c6 else if k = 7 then c7 else if k = 8 then c8 else if k = 9 then c9 else if k = 10 then c10 else if k = 11 then c11 else if k = 12 then c12 else c13, fun k => if k = 0 then i0 else if k = 1 then i1 else if k = 2 then i2 else if k = 3 then i3 else if k = 4 then i4 else if k = 5 then i5 else if k = 6 then i6 else if k = 7 then i7 else if k = 8 then i8 else if k = 9 then i9 else if k = 10 then i10 else if k = 11 then i11 else if k = 12 then i12 else i13), ?_⟩
  intro k q hq
  match k, hq with
  | 0, hq => cases hq; exact k0
  | 1, hq => cases hq; exact k1
  | 2, hq => cases hq; exact k2
  | 3, hq => cases hq; exact k3
  | 4, hq => cases hq; exact k4
  | 5, hq => cases hq; exact k5
  | 6, hq => cases hq; exact k6
  | 7, hq => cases hq; exact k7
  | 8, hq => cases hq; exact k8
  | 9, hq => cases hq; exact k9
  | 10, hq => cases hq; exact k10
  | 11, hq => cases hq; exact k11
  | 12, hq => cases hq; exact k12
  | 13, hq => cases hq; exact k13
  | k + 14, hq => cases hq
theorem st_arr {s : State} {args : Array Value} {ty : FieldType} (h : (Cond.arrayClass ty).before args s = true) (hty : ∀ C, ty ≠ .object C) : ∃ c : ClassId, ArrOfT s c ty ∧ va_RA s c ty := by
  obtain ⟨c, k, comp, h1, h2, h3⟩ := Cond.arrayClass_spec h
  refine ⟨c, fun n z => ⟨(fun k h => by cases h), k, h2, comp, h3⟩, ?_⟩
  cases ty with
  | object C => exact absurd rfl (hty C)
  | _ => exact h1
theorem st_arrA {s : State} {args : Array Value} (h : (Cond.arrayOver (.array .int)).before args s = true) : ∃ c : ClassId, ArrOfT s c (.array .int) ∧ va_RA s c (.array .int) := by
  obtain ⟨comp, c, k, h1, h2, h3, h4⟩ := Cond.arrayOver_specA h
  exact ⟨c, fun n z => ⟨(fun k h => by cases h), k, h2, comp, h3⟩, h4⟩
theorem st_arrO {s : State} {args : Array Value} {C : String} (h : (Cond.arrayOver (.object C)).before args s = true) : ∃ c : ClassId, ArrOfT s c (.object C) ∧ va_RA s c (.object C) := by
  obtain ⟨comp, c, k, h1, h2, h3, h4, h5⟩ := Cond.arrayOver_spec h
  exact ⟨c, fun n z => ⟨(fun k h => by cases h), k, h3, comp, h4⟩, k, comp, h3, h4, h1, h5⟩
def tmS (i : Nat) : Term := match i with
  | 0 => .string "HighSpots$Reader" 129
  | 1 => .string "HighSpots$Reader" 75
  | _ => .string "HighSpots$Guide" 52
theorem st_str {s : State} {b : Nat} (hgv : (Jvm.Cond.and given_1 narrow_1).before #[Value.ref b] s = true) (ht0 : ∀ w ∈ lw_tbl, w.before #[Value.ref b] s = true) : ∃ adK adV : Nat → Nat, vk_S 3 lenS bytS adK adV (fun q => s.heap.size ≤ q) s s.heap ∧ ∀ i : Nat, i < 3 → (tmS i).eval #[Value.ref b] s none [] s = some (.ref (adK i)) := by
  have hs := flat_of_before _ hgv
  have hN : ∀ i : Nat, i < 3 → lenS.getD i 0 < 2 ^ 31 := by
    intro i hi
    match i, hi with
    | 0, _ => decide
    | 1, _ => decide
    | 2, _ => decide
  have hex : ∀ i : Nat, i < 3 → (Cond.exactly (tmS i) "java/lang/String").before #[Value.ref b] s = true := by
    intro i hi
    match i, hi with
    | 0, _ => exact hs _ (by decide +kernel)
    | 1, _ => exact hs _ (by decide +kernel)
    | 2, _ => exact hs _ (by decide +kernel)
  have hco : ∀ i : Nat, i < 3 → (Cond.eq (.field (tmS i) "java/lang/String" "coder" "B") (.int 0)).before #[Value.ref b] s = true := by
    intro i hi
    match i, hi with
    | 0, _ => exact hs _ (by decide +kernel)
    | 1, _ => exact hs _ (by decide +kernel)
    | 2, _ => exact hs _ (by decide +kernel)
  have har : ∀ i : Nat, i < 3 → (Cond.arrayOf (.field (tmS i) "java/lang/String" "value" "[B") .byte).before #[Value.ref b] s = true := by
    intro i hi
    match i, hi with
    | 0, _ => exact hs _ (by decide +kernel)
    | 1, _ => exact hs _ (by decide +kernel)
    | 2, _ => exact hs _ (by decide +kernel)
  have hle : ∀ i : Nat, i < 3 → (Cond.eq (.length (.field (tmS i) "java/lang/String" "value" "[B")) (.int (Int32.ofNat (lenS.getD i 0)))).before #[Value.ref b] s = true := by
    intro i hi
    match i, hi with
    | 0, _ => exact hs _ (by decide +kernel)
    | 1, _ => exact hs _ (by decide +kernel)
    | 2, _ => exact hs _ (by decide +kernel)
  have hel : ∀ i : Nat, i < 3 → ∀ j : Nat, j < lenS.getD i 0 → (Cond.eq (.elem (.field (tmS i) "java/lang/String" "value" "[B") (.int (Int32.ofNat j))) (.int ((bytS.getD i []).getD j 0))).before #[Value.ref b] s = true := by
    intro i hi
    match i, hi with
    | 0, _ =>
      intro j hj
      have hj : j < 3 := hj
      match j, hj with
      | 0, _ => exact hs _ (by decide +kernel)
      | 1, _ => exact hs _ (by decide +kernel)
      | 2, _ => exact hs _ (by decide +kernel)
    | 1, _ =>
      intro j hj
      have hj : j < 10 := hj
      match j, hj with
      | 0, _ => exact hs _ (by decide +kernel)
      | 1, _ => exact hs _ (by decide +kernel)
      | 2, _ => exact hs _ (by decide +kernel)
      | 3, _ => exact hs _ (by decide +kernel)
      | 4, _ => exact hs _ (by decide +kernel)
      | 5, _ => exact hs _ (by decide +kernel)
      | 6, _ => exact hs _ (by decide +kernel)
      | 7, _ => exact hs _ (by decide +kernel)
      | 8, _ => exact hs _ (by decide +kernel)
      | 9, _ => exact hs _ (by decide +kernel)
    | 2, _ =>
      intro j hj
      have hj : j < 5 := hj
      match j, hj with
      | 0, _ => exact hs _ (by decide +kernel)
      | 1, _ => exact hs _ (by decide +kernel)
      | 2, _ => exact hs _ (by decide +kernel)
      | 3, _ => exact hs _ (by decide +kernel)
      | 4, _ => exact hs _ (by decide +kernel)
  have hne : ∀ i j : Nat, i < 3 → j < 3 → i ≠ j → (Cond.not (Cond.eq (tmS i) (tmS j))).before #[Value.ref b] s = true ∨ (Cond.not (Cond.eq (tmS j) (tmS i))).before #[Value.ref b] s = true := by
    intro i j hi hj hij
    match i, j, hi, hj with
    | 0, 0, _, _ => exact absurd rfl hij
    | 0, 1, _, _ => exact Or.inl (hs _ (by decide +kernel))
    | 0, 2, _, _ => exact Or.inl (hs _ (by decide +kernel))
    | 1, 0, _, _ => exact Or.inr (hs _ (by decide +kernel))
    | 1, 1, _, _ => exact absurd rfl hij
    | 1, 2, _, _ => exact Or.inl (hs _ (by decide +kernel))
    | 2, 0, _, _ => exact Or.inr (hs _ (by decide +kernel))
    | 2, 1, _, _ => exact Or.inr (hs _ (by decide +kernel))
    | 2, 2, _, _ => exact absurd rfl hij
  exact vk_Sof (A := fun q => s.heap.size ≤ q) hN hex hco har hle hel hne (fun a h1 h2 => absurd h1 (by omega))
theorem df_X0 : ∀ j, j < 21 → defaultValue (tyX0 j) = vp_V [.null, .null, .null, .null, .int 0, .null, .null, .null, .null, .null, .int 0, .int 0, .null, .null, .null, .null, .null, .null, .null, .null, .null] j := by
  intro j hj
  match j, hj with
  | 0, _ => rfl
  | 1, _ => rfl
  | 2, _ => rfl
  | 3, _ => rfl
  | 4, _ => rfl
  | 5, _ => rfl
  | 6, _ => rfl
  | 7, _ => rfl
  | 8, _ => rfl
  | 9, _ => rfl
  | 10, _ => rfl
  | 11, _ => rfl
  | 12, _ => rfl
  | 13, _ => rfl
  | 14, _ => rfl
  | 15, _ => rfl
  | 16, _ => rfl
  | 17, _ => rfl
  | 18, _ => rfl
  | 19, _ => rfl
  | 20, _ => rfl
  | j + 21, hj => exact absurd hj (by omega)
theorem df_X5 : ∀ j, j < 57 → defaultValue (tyX5 j) = vp_V [.null, .null, .null, .int 0, .int 0, .null, .int 0, .int 0, .int 0, .int 0, .int 0, .int 0, .int 0, .int 0, .int 0, .int 0, .null, .null, .null, .null, .null, .null, .null, .null, .null, .null, .null, .null, .null, .null, .int 0, .int 0, .int 0, .int 0, .null, .null, .null, .null, .null, .int 0, .int 0, .int 0, .null, .null, .null, .null, .null, .int 0, .int 0, .null, .int 0, .null, .int 0, .int 0, .null, .null, .int 0] j := by
  intro j hj
  match j, hj with
  | 0, _ => rfl
  | 1, _ => rfl
  | 2, _ => rfl
  | 3, _ => rfl
  | 4, _ => rfl
  | 5, _ => rfl
  | 6, _ => rfl
  | 7, _ => rfl
  | 8, _ => rfl
  | 9, _ => rfl
  | 10, _ => rfl
  | 11, _ => rfl
  | 12, _ => rfl
  | 13, _ => rfl
  | 14, _ => rfl
  | 15, _ => rfl
  | 16, _ => rfl
  | 17, _ => rfl
  | 18, _ => rfl
  | 19, _ => rfl
  | 20, _ => rfl
  | 21, _ => rfl
  | 22, _ => rfl
  | 23, _ => rfl
  | 24, _ => rfl
  | 25, _ => rfl
  | 26, _ => rfl
  | 27, _ => rfl
  | 28, _ => rfl
  | 29, _ => rfl
  | 30, _ => rfl
  | 31, _ => rfl
  | 32, _ => rfl
  | 33, _ => rfl
  | 34, _ => rfl
  | 35, _ => rfl
  | 36, _ => rfl
  | 37, _ => rfl
  | 38, _ => rfl
  | 39, _ => rfl
  | 40, _ => rfl
  | 41, _ => rfl
  | 42, _ => rfl
  | 43, _ => rfl
  | 44, _ => rfl
  | 45, _ => rfl
  | 46, _ => rfl
  | 47, _ => rfl
  | 48, _ => rfl
  | 49, _ => rfl
  | 50, _ => rfl
  | 51, _ => rfl
  | 52, _ => rfl
  | 53, _ => rfl
  | 54, _ => rfl
  | 55, _ => rfl
  | 56, _ => rfl
  | j + 57, hj => exact absurd hj (by omega)
set_option maxHeartbeats 8000000 in
theorem start_of (I : TTy → Hp → Hp → Prop) (hAll : Steps I) (h0 : I tt0 hX0 hM0) {p : Program} {e : Env} {s : State} {m : MethodId} {below : List Frame} {meth : Method} {c : Code} (l : Launch) {b L : Nat} {xs : Nat → Int32} (hL : L ≤ 384) (C0 : lw_At p s m meth c b L xs) : W p l e room_1 s m #[Value.ref b] below meth c s.heap [] 0 0 (lw_Z below #[Value.ref b] s) (entryFrame m ([Value.ref b] : List Value).toArray 4) := by
  obtain ⟨hx, hb, hr, hml, hown, ht0, hX, hbl, hlk, hgv⟩ := C0
  have hts : ∀ w ∈ lw_all, w.before #[Value.ref b] s = true := fun w h => ht0 w (lw_all_tbl h)
  obtain ⟨D, hD0⟩ := st_classes ht0
  obtain ⟨d0, a0, r0⟩ := st_arr (ty := .int) (hts _ q169) (fun C h => by cases h)
  obtain ⟨d1, a1, r1⟩ := st_arr (ty := .boolean) (hts _ q202) (fun C h => by cases h)
  obtain ⟨d2, a2, r2⟩ := st_arr (ty := .byte) (hts _ q231) (fun C h => by cases h)
  obtain ⟨d3, a3, r3⟩ := st_arrA (ht0 _ q177)
  obtain ⟨d4, a4, r4⟩ := st_arrO (C := "HighSpots$Sum") (ht0 _ q210)
  obtain ⟨d5, a5, r5⟩ := st_arrO (C := "HighSpots$Condition") (ht0 _ q212)
  obtain ⟨adK, adV, hstr, hev⟩ := st_str hgv ht0
  let dA : Nat → ClassId := fun k => if k = 0 then d0 else if k = 1 then d1 else if k = 2 then d2 else if k = 3 then d3 else if k = 4 then d4 else if k = 5 then d5 else if k < 20 then adK (k - 10) else adV (k - 20)
  have hK : va_K D vwCl (tyA dA) s := by
    refine ⟨hD0, fun k q hk => ?_⟩
    match k, hk with
    | 0, hk => cases hk; exact ⟨a0, r0⟩
    | 1, hk => cases hk; exact ⟨a1, r1⟩
    | 2, hk => cases hk; exact ⟨a2, r2⟩
    | 3, hk => cases hk; exact ⟨a3, r3⟩
    | 4, hk => cases hk; exact ⟨a4, r4⟩
    | 5, hk => cases hk; exact ⟨a5, r5⟩
    | k + 6, hk => cases hk
  have hN : KN s := by
    intro w hw hk
    have h1 := ht0 w hw
    unfold nwOk at hk
    split at hk
    · exact va_Nw.of rfl h1
    · exact va_Nw.of rfl h1
    · exact va_Nw.of rfl h1
    · exact va_Nw.of rfl h1
    · exact h1
    · exact h1
    · cases hk
  have hsk : SK dA (fun q => s.heap.size ≤ q) s s.heap := by
    refine ⟨⟨fun i hi => ?_, fun i j hi hj hij => ?_⟩, ?_, ?_, ?_, ?_⟩
    · have e1 : dA (10 + i) = adK i := by
        show (if 10 + i = 0 then d0 else if 10 + i = 1 then d1 else if 10 + i = 2 then d2 else if 10 + i = 3 then d3 else if 10 + i = 4 then d4 else if 10 + i = 5 then d5 else if 10 + i < 20 then adK (10 + i - 10) else adV (10 + i - 20)) = adK i
        rw [if_neg (by omega), if_neg (by omega), if_neg (by omega), if_neg (by omega), if_neg (by omega), if_neg (by omega), if_pos (by omega), show 10 + i - 10 = i by omega]
      have e2 : dA (20 + i) = adV i := by
        show (if 20 + i = 0 then d0 else if 20 + i = 1 then d1 else if 20 + i = 2 then d2 else if 20 + i = 3 then d3 else if 20 + i = 4 then d4 else if 20 + i = 5 then d5 else if 20 + i < 20 then adK (20 + i - 10) else adV (20 + i - 20)) = adV i
        rw [if_neg (by omega), if_neg (by omega), if_neg (by omega), if_neg (by omega), if_neg (by omega), if_neg (by omega), if_neg (by omega), show 20 + i - 20 = i by omega]
      show va_O "java/lang/String" (dA (10 + i)) _ s s.heap ∧ va_OF "java/lang/String" "coder" "B" (.int 0) (dA (10 + i)) _ s s.heap ∧ va_OF "java/lang/String" "value" "[B" (.ref (dA (20 + i))) (dA (10 + i)) _ s s.heap ∧ va_T .byte (dA (20 + i)) (lenS.getD i 0) (fun j => .int ((bytS.getD i []).getD j 0)) _ s s.heap
      rw [e1, e2]
      exact hstr.1 i hi
    · have e1 : ∀ i, i < 3 → dA (10 + i) = adK i := fun i hi => by
        show (if 10 + i = 0 then d0 else if 10 + i = 1 then d1 else if 10 + i = 2 then d2 else if 10 + i = 3 then d3 else if 10 + i = 4 then d4 else if 10 + i = 5 then d5 else if 10 + i < 20 then adK (10 + i - 10) else adV (10 + i - 20)) = adK i
        rw [if_neg (by omega), if_neg (by omega), if_neg (by omega), if_neg (by omega), if_neg (by omega), if_neg (by omega), if_pos (by omega), show 10 + i - 10 = i by omega]
      exact hstr.2 i j hi hj (by rw [← e1 i hi, ← e1 j hj]; exact hij)
    · exact vk_R.of (ht0 _ q383) (hev 0 (by decide))
    · exact vk_R.of (ht0 _ q517) (hev 1 (by decide))
    · exact vk_R.of (ht0 _ q777) (hev 2 (by decide))
    · exact va_Zof (ht0 _ q397) (hts _ q124) (va_eqt (flat_of_before _ hgv _ (by decide +kernel))) (fun a h1 h2 => absurd h1 (by omega))
  generalize dA = dA at hK hsk
  have hA : ∀ q : Nat, s.heap.size ≤ q → (fun q => s.heap.size ≤ q) q := fun q h => h
  obtain ⟨G, hG⟩ : ∃ G : Gty, ∀ w ce sl pc lv st, G w ce sl pc lv st ↔ ∀ (H : Heap) (locs : List Loc) (ls : Array Slot), va_P D vwCl w H → va_D (fun q => s.heap.size ≤ q) w → va_S (fun q => s.heap.size ≤ q) s.heap H locs → lv_has ls 4 lv → W p l e room_1 s m #[Value.ref b] below meth c H locs ce sl (lw_Z below #[Value.ref b] s) (F0 m pc ls st) := ⟨_, fun _ _ _ _ _ _ => Iff.rfl⟩
  have X : IsG G l code 4 "HighSpotsLaw" D dA 8192 100000 1200000 5502250 := ⟨p, e, room_1, s, m, _, below, meth, c, _, _, ⟨hx, hb, hml, hown, hts⟩, hK, ⟨hN, hsk⟩, hA, ⟨rfl, rfl, rfl, rfl⟩, hG⟩
  have hSld : ∀ (w : va_W) (ce sl pc : Nat) (lv : List (Nat × Value)) (st : List Value) (i : Int32), vp_in i L → decode code pc = .ok (.iaload, 1) → G w ce sl (pc + 1) lv (.int (xs i.toNatClampNeg) :: st) → G w ce sl pc lv (.int i :: .ref b :: st) := by
    intro w ce sl pc lv st i hi hd hk
    rw [hG]
    intro H locs ls hP hD hS hl
    exact va_sld hx hb hX hbl (fun h => absurd hbl (by omega)) hS hi hd ((hG ..).mp hk H locs ls hP hD hS hl)
  have hSlen : ∀ (w : va_W) (ce sl pc : Nat) (lv : List (Nat × Value)) (st : List Value), decode code pc = .ok (.arraylength, 1) → G w ce sl (pc + 1) lv (.int (Int32.ofNat L) :: st) → G w ce sl pc lv (.ref b :: st) := by
    intro w ce sl pc lv st hd hk
    rw [hG]
    intro H locs ls hP hD hS hl
    exact va_slen hx hb hX hbl (fun h => absurd hbl (by omega)) hS hd ((hG ..).mp hk H locs ls hP hD hS hl)
  have hRet : ∀ (w : va_W) (ce sl pc : Nat) (lv : List (Nat × Value)), ce ≤ 1200000 → sl ≤ 5502250 → decode code pc = .ok (.ireturn, 1) → G w ce sl pc lv [.int 1] := by
    intro w ce sl pc lv h1 h2 hd
    rw [hG]
    intro H locs ls hP hD hS hl
    exact va_forget (fun q hq => hS.2.2 q hq) (W.widen h1 h2 (lw_ret hx hb hr hlk hd))
  have hl := lv_entry [Value.ref b] (n := 4) (Nat.le_of_ble_eq_true rfl)
  rw [lg_entry_eq]
  generalize (lg_sl [Value.ref b] ++ List.replicate (4 - (lg_sl [Value.ref b]).length) Slot.unset).toArray = ls at hl ⊢
  have hP0 : va_P D vwCl [] s.heap := fun k q hk => by cases hk
  have hD9 : va_D (fun q => s.heap.size ≤ q) [] := ⟨fun i j p q hi => by (cases hi), fun k q hk => by cases hk⟩
  refine (hG ..).mp ?_ s.heap [] ls hP0 hD9 va_S.rf hl
  refine (show TM G () (some ()) [] 0 0 0 [(0, .ref b)] [] from ?_) rfl
  refine tm_new (ci := 0) X tyX0 in_X0 tyX0_ok q141 q142 q117 rfl [.null, .null, .null, .null, .int 0, .null, .null, .null, .null, .null, .int 0, .int 0, .null, .null, .null, .null, .null, .null, .null, .null, .null] df_X0 ⟨by omega, by omega⟩ dL_law_0 (fun q1 => ?_)
  refine tm_dup X dL_law_3 rfl ?_
  refine tm_callIE (ce := 1) (sl := 21) (As := []) (rest := [.ref q1]) (wr := []) X (ceX0_init l D dA q1) q143 q144 q117 q145 rfl cyX0_init rfl ⟨Nat.le_of_ble_eq_true rfl, Nat.le_of_ble_eq_true rfl⟩ (Nat.le_of_ble_eq_true rfl) dL_law_4 ⟨Nat.le_of_ble_eq_true rfl, Nat.le_of_ble_eq_true rfl⟩ rfl rfl ?_
  rintro _ _ ⟨rfl, ad, had, rfl⟩
  subst had
  refine tm_same (w' := wX ad dA tt0 hX0) (pc' := 7) (st' := [.ref (ad 100)]) rfl rfl rfl rfl rfl ?_
  refine tm_astore_n X [(1, .ref (ad 100)), (0, .ref b)] dL_law_7 rfl (Nat.le_of_ble_eq_true rfl) rfl ?_
  refine tm_new (ci := 4) X tyX5 in_X5 tyX5_ok q1181 q1182 q122 rfl [.null, .null, .null, .int 0, .int 0, .null, .int 0, .int 0, .int 0, .int 0, .int 0, .int 0, .int 0, .int 0, .int 0, .int 0, .null, .null, .null, .null, .null, .null, .null, .null, .null, .null, .null, .null, .null, .null, .int 0, .int 0, .int 0, .int 0, .null, .null, .null, .null, .null, .int 0, .int 0, .int 0, .null, .null, .null, .null, .null, .int 0, .int 0, .null, .int 0, .null, .int 0, .int 0, .null, .null, .int 0] df_X5 ⟨Nat.le_of_ble_eq_true rfl, Nat.le_of_ble_eq_true rfl⟩ dL_law_8 (fun q2 => ?_)
  refine tm_dup X dL_law_11 rfl ?_
  refine tm_callIE (ce := 36) (sl := 1474) (As := []) (rest := [.ref q2]) (wr := wX ad dA tt0 hX0) X (ceX5_init l D dA q2) q1183 q1184 q122 q1185 rfl cyX5_init rfl ⟨Nat.le_of_ble_eq_true rfl, Nat.le_of_ble_eq_true rfl⟩ (Nat.le_of_ble_eq_true rfl) dL_law_12 ⟨Nat.le_of_ble_eq_true rfl, Nat.le_of_ble_eq_true rfl⟩ rfl rfl ?_
  rintro _ _ ⟨rfl, am, ham, rfl⟩
  subst ham
  refine tm_same (w' := wX ad dA tt0 hX0 ++ wM am dA hM0) (pc' := 15) (st' := [.ref (am 300)]) rfl rfl rfl rfl rfl ?_
  refine tm_astore_n X [(2, .ref (am 300)), (1, .ref (ad 100)), (0, .ref b)] dL_law_15 rfl (Nat.le_of_ble_eq_true rfl) rfl ?_
  refine tm_iconst X (0 : Int32) dL_law_16 (by decide) ?_
  refine tm_istore_n X [(3, .int 0), (2, .ref (am 300)), (1, .ref (ad 100)), (0, .ref b)] dL_law_17 rfl (Nat.le_of_ble_eq_true rfl) rfl ?_
  refine tm_lv X [3, 2, 1, 0] rfl ?_
  exact fun _ => law_loop hL X hSld hSlen hRet I hAll am 65 0 0 (by omega) (by omega) rfl ad tt0 hX0 hM0 h0 _ _ (Nat.le_of_ble_eq_true rfl) (Nat.le_of_ble_eq_true rfl)
