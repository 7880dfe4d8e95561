/-! Reader: rows for the text's tables -/
set_option maxRecDepth 100000
section CROWS
variable {G : Gty} {l : Launch} {cc : ByteArray} {nL : Nat} {own : String} {D : va_G} {dA : Nat → ClassId} {fr lo mc ms : Nat} {ρ : Type} {res : ρ} {M : Option ρ} {w w' : va_W} {ce sl pc : Nat} {lv : List (Nat × Value)} {st rest : List Value} {ad ac : Nat → Nat} {tt : (Nat → Option Nat) × (Nat → Option Nat) × va_W} {sc : (Nat → Option Nat) × (Nat → Option Nat)} {P : va_W} {h h' : Hp} {r : Int32}
theorem tm_rtext (X : IsG G l cc nL "HighSpots$Reader" D dA fr lo mc ms) (hd : decode cc pc = .ok (.getfield 18, 3)) (k : TM G res M (wXP ad ac dA tt sc P h) ce sl (pc + 3) lv (.ref (ac 91) :: st)) : TM G res M (wXP ad ac dA tt sc P h) ce sl pc lv (.ref (ac 90) :: st) :=
  tm_getR X (FR.left (frXR_90_1 ad ac dA tt sc h)) in_X6 rfl (Nat.le_of_ble_eq_true rfl) q345 rfl hd k
theorem tm_rmany (X : IsG G l cc nL "HighSpots$Reader" D dA fr lo mc ms) (hd : decode cc pc = .ok (.getfield 131, 3)) (k : TM G res M (wXP ad ac dA tt sc P h) ce sl (pc + 3) lv (.int (h 91 3) :: st)) : TM G res M (wXP ad ac dA tt sc P h) ce sl pc lv (.ref (ac 91) :: st) :=
  tm_getIN X (FI.left (v := fun _ => P) (fiXR_91_3 ad ac dA tt sc) (fun _ _ _ => rfl)) in_X4 rfl (Nat.le_of_ble_eq_true rfl) q220 rfl hd k
theorem tm_rputmany (X : IsG G l cc nL "HighSpots$Reader" D dA fr lo mc ms) {v : Int32} (hd : decode cc pc = .ok (.putfield 131, 3)) (k : TM G res M (wXP ad ac dA tt sc P (u2 h 91 3 v)) ce sl (pc + 3) lv st) : TM G res M (wXP ad ac dA tt sc P h) ce sl pc lv (.int v :: .ref (ac 91) :: st) := by
  obtain ⟨fs, h1, h2, h3, h4⟩ := FI.left (v := fun _ => P) (fiXR_91_3 ad ac dA tt sc) (fun _ _ _ => rfl) h
  exact tm_putVN (ty := .int) X _ h1 in_X4 rfl (Nat.le_of_ble_eq_true rfl) tyX4 tyX4_ok nmX4 rfl rfl rfl rfl h3 q220 rfl hd (h4 v) k
theorem tm_rletters (X : IsG G l cc nL "HighSpots$Reader" D dA fr lo mc ms) (hd : decode cc pc = .ok (.getfield 134, 3)) (k : TM G res M (wXP ad ac dA tt sc P h) ce sl (pc + 3) lv (.ref (ac 92) :: st)) : TM G res M (wXP ad ac dA tt sc P h) ce sl pc lv (.ref (ac 91) :: st) :=
  tm_getRN X (FR.left (frXR_91_0 ad ac dA tt sc h)) in_X4 rfl (Nat.le_of_ble_eq_true rfl) q214 rfl hd k
theorem tm_rsums (X : IsG G l cc nL "HighSpots$Reader" D dA fr lo mc ms) (hd : decode cc pc = .ok (.getfield 138, 3)) (k : TM G res M (wXP ad ac dA tt sc P h) ce sl (pc + 3) lv (.ref (ac 93) :: st)) : TM G res M (wXP ad ac dA tt sc P h) ce sl pc lv (.ref (ac 91) :: st) :=
  tm_getRN X (FR.left (frXR_91_1 ad ac dA tt sc h)) in_X4 rfl (Nat.le_of_ble_eq_true rfl) q216 rfl hd k
theorem tm_rconds (X : IsG G l cc nL "HighSpots$Reader" D dA fr lo mc ms) (hd : decode cc pc = .ok (.getfield 142, 3)) (k : TM G res M (wXP ad ac dA tt sc P h) ce sl (pc + 3) lv (.ref (ac 94) :: st)) : TM G res M (wXP ad ac dA tt sc P h) ce sl pc lv (.ref (ac 91) :: st) :=
  tm_getRN X (FR.left (frXR_91_2 ad ac dA tt sc h)) in_X4 rfl (Nat.le_of_ble_eq_true rfl) q218 rfl hd k
theorem tm_rletter (X : IsG G l cc nL own D dA fr lo mc ms) {j : Nat} (hj : j < 16) {v : Int32} (hd : decode cc pc = .ok (.iastore, 1)) (k : TM G () (some ()) (wXP ad ac dA tt sc P (u2 h 92 j v)) ce sl (pc + 1) lv st) : TM G () (some ()) (wXP ad ac dA tt sc P h) ce sl pc lv (.int v :: .int (nI j) :: .ref (ac 92) :: st) := by
  have key := tm_iastore (E := fun h' => @ite _ (h' = u2 h 92 j v) (Classical.propDecidable _) (some ()) none) (res := ()) (i := nI j) (v := v) (h := h) X (AR.left (v := fun _ => P) (arXR_92 ad ac dA tt sc) (fun _ _ _ => rfl)) hd (ce := ce) (sl := sl) (lv := lv) (st := st) (fun h' => by
    intro hm
    by_cases e : h' = u2 h 92 j v
    · rw [e]
      exact k rfl
    · rw [if_neg e] at hm
      cases hm)
  rw [ck_s hj (by decide), nI_clamp (by omega), nm_s, if_pos rfl] at key
  exact key
theorem sc_93 (ad ac : Nat → Nat) (dA : Nat → ClassId) (tt : (Nat → Option Nat) × (Nat → Option Nat) × va_W) (sc : (Nat → Option Nat) × (Nat → Option Nat)) (P : va_W) (h : Hp) : (wXP ad ac dA tt sc P h)[(wX ad dA tt h).length + 3]? = some (ac 93, .inl (dA 4, 16, .inr (.inr (.inr (.inr sc.1))))) ∧ (wXP ad ac dA tt sc P h)[(wX ad dA tt h).length + 4]? = some (ac 94, .inl (dA 5, 16, .inr (.inr (.inr (.inr sc.2))))) ∧ (∀ f, (wXP ad ac dA tt sc P h).set ((wX ad dA tt h).length + 3) (ac 93, .inl (dA 4, 16, .inr (.inr (.inr (.inr f))))) = wXP ad ac dA tt (f, sc.2) P h) ∧ ∀ f, (wXP ad ac dA tt sc P h).set ((wX ad dA tt h).length + 4) (ac 94, .inl (dA 5, 16, .inr (.inr (.inr (.inr f))))) = wXP ad ac dA tt (sc.1, f) P h := by
  unfold wXP wXR
  refine ⟨?_, ?_, fun f => ?_, fun f => ?_⟩
  · rw [List.append_assoc, List.getElem?_append_right (by omega), Nat.add_sub_cancel_left]
    rfl
  · rw [List.append_assoc, List.getElem?_append_right (by omega), Nat.add_sub_cancel_left]
    rfl
  · rw [List.append_assoc, List.set_append_right _ _ (by omega), Nat.add_sub_cancel_left, List.append_assoc]
    rfl
  · rw [List.append_assoc, List.set_append_right _ _ (by omega), Nat.add_sub_cancel_left, List.append_assoc]
    rfl
theorem tm_setS (X : IsG G l cc nL own D dA fr lo mc ms) {j v : Nat} (hj : j < 16) {fs : List Value} (hv : (v, .inr (6, fs)) ∈ P) (hd : decode cc pc = .ok (.aastore, 1)) (k : TM G res M (wXP ad ac dA tt (va_up sc.1 j (some v), sc.2) P h) ce sl (pc + 1) lv st) : TM G res M (wXP ad ac dA tt sc P h) ce sl pc lv (.ref v :: .int (nI j) :: .ref (ac 93) :: st) := by
  obtain ⟨p, e, R, s, m, args, below, meth, c, Q, A, ⟨hx, hb, hml, hown, hts⟩, hK, hN, hA, hR, hG⟩ := X
  intro hm
  rw [hG]
  intro H locs ls hP hD hS hl
  obtain ⟨a1, a2, a3, a4⟩ := sc_93 ad ac dA tt sc P h
  obtain ⟨qk, hqk⟩ := List.getElem?_of_mem (show (v, (.inr (6, fs) : va_E)) ∈ wXP ad ac dA tt sc P h from List.mem_append_right _ hv)
  refine va_astqO (args := args) (E := "HighSpots$Sum") hx hb hK hP hD hS _ 4 qk 6 a1 rfl (hN.1 _ q1866 rfl) hqk rfl (vp_in_nI hj (by decide)) hd (fun H1 locs1 hP1 hD1 hS1 => ?_)
  rw [nI_clamp (by omega), a3] at hP1 hD1
  exact (hG ..).mp (k hm) H1 locs1 ls hP1 hD1 hS1 hl
theorem tm_setSN (X : IsG G l cc nL own D dA fr lo mc ms) {j : Nat} (hj : j < 16) (hd : decode cc pc = .ok (.aastore, 1)) (k : TM G res M (wXP ad ac dA tt (va_up sc.1 j none, sc.2) P h) ce sl (pc + 1) lv st) : TM G res M (wXP ad ac dA tt sc P h) ce sl pc lv (.null :: .int (nI j) :: .ref (ac 93) :: st) := by
  obtain ⟨p, e, R, s, m, args, below, meth, c, Q, A, ⟨hx, hb, hml, hown, hts⟩, hK, hN, hA, hR, hG⟩ := X
  intro hm
  rw [hG]
  intro H locs ls hP hD hS hl
  obtain ⟨a1, a2, a3, a4⟩ := sc_93 ad ac dA tt sc P h
  refine va_astqN (C := "HighSpots$Sum") hx hb hK hP hD hS _ 4 a1 rfl (vp_in_nI hj (by decide)) hd (fun H1 locs1 hP1 hD1 hS1 => ?_)
  rw [nI_clamp (by omega), a3] at hP1 hD1
  exact (hG ..).mp (k hm) H1 locs1 ls hP1 hD1 hS1 hl
theorem tm_setC (X : IsG G l cc nL own D dA fr lo mc ms) {j v : Nat} (hj : j < 16) {fs : List Value} (hv : (v, .inr (9, fs)) ∈ P) (hd : decode cc pc = .ok (.aastore, 1)) (k : TM G res M (wXP ad ac dA tt (sc.1, va_up sc.2 j (some v)) P h) ce sl (pc + 1) lv st) : TM G res M (wXP ad ac dA tt sc P h) ce sl pc lv (.ref v :: .int (nI j) :: .ref (ac 94) :: st) := by
  obtain ⟨p, e, R, s, m, args, below, meth, c, Q, A, ⟨hx, hb, hml, hown, hts⟩, hK, hN, hA, hR, hG⟩ := X
  intro hm
  rw [hG]
  intro H locs ls hP hD hS hl
  obtain ⟨a1, a2, a3, a4⟩ := sc_93 ad ac dA tt sc P h
  obtain ⟨qk, hqk⟩ := List.getElem?_of_mem (show (v, (.inr (9, fs) : va_E)) ∈ wXP ad ac dA tt sc P h from List.mem_append_right _ hv)
  refine va_astqO (args := args) (E := "HighSpots$Condition") hx hb hK hP hD hS _ 5 qk 9 a2 rfl (hN.1 _ q1869 rfl) hqk rfl (vp_in_nI hj (by decide)) hd (fun H1 locs1 hP1 hD1 hS1 => ?_)
  rw [nI_clamp (by omega), a4] at hP1 hD1
  exact (hG ..).mp (k hm) H1 locs1 ls hP1 hD1 hS1 hl
theorem tm_setCN (X : IsG G l cc nL own D dA fr lo mc ms) {j : Nat} (hj : j < 16) (hd : decode cc pc = .ok (.aastore, 1)) (k : TM G res M (wXP ad ac dA tt (sc.1, va_up sc.2 j none) P h) ce sl (pc + 1) lv st) : TM G res M (wXP ad ac dA tt sc P h) ce sl pc lv (.null :: .int (nI j) :: .ref (ac 94) :: st) := by
  obtain ⟨p, e, R, s, m, args, below, meth, c, Q, A, ⟨hx, hb, hml, hown, hts⟩, hK, hN, hA, hR, hG⟩ := X
  intro hm
  rw [hG]
  intro H locs ls hP hD hS hl
  obtain ⟨a1, a2, a3, a4⟩ := sc_93 ad ac dA tt sc P h
  refine va_astqN (C := "HighSpots$Condition") hx hb hK hP hD hS _ 5 a2 rfl (vp_in_nI hj (by decide)) hd (fun H1 locs1 hP1 hD1 hS1 => ?_)
  rw [nI_clamp (by omega), a4] at hP1 hD1
  exact (hG ..).mp (k hm) H1 locs1 ls hP1 hD1 hS1 hl
end CROWS
