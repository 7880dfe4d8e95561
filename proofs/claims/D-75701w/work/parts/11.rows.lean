set_option maxRecDepth 100000
section ROWS2
variable {G : Gty} {l : Launch} {cc : ByteArray} {nL : Nat} {own : String} {D : va_G} {dA : Nat → ClassId} {fr lo mc ms : Nat} {ρ : Type} {res : ρ} {M M1 M2 : Option ρ} {w : va_W} {ce sl pc : Nat} {lv : List (Nat × Value)} {st : List Value}
theorem tm_iadd (X : IsG G l cc nL own D dA fr lo mc ms) {x y : Int32} (hd : decode cc pc = .ok (.iadd, 1)) (k : TM G res M w ce sl (pc + 1) lv (.int (x + y) :: st)) : TM G res M w ce sl pc lv (.int y :: .int x :: st) := by
  obtain ⟨p, e, R, s, m, args, below, meth, c, Q, A, ⟨hx, hb, hml, hown, hts⟩, hK, hN, hA, hR, hG⟩ := X
  intro hm
  rw [hG]
  intro H locs ls hP hD hS hl
  exact lv_iadd hx hb hd ((hG ..).mp (k hm) H locs ls hP hD hS hl)
theorem tm_isub (X : IsG G l cc nL own D dA fr lo mc ms) {x y : Int32} (hd : decode cc pc = .ok (.isub, 1)) (k : TM G res M w ce sl (pc + 1) lv (.int (x - y) :: st)) : TM G res M w ce sl pc lv (.int y :: .int x :: st) := by
  obtain ⟨p, e, R, s, m, args, below, meth, c, Q, A, ⟨hx, hb, hml, hown, hts⟩, hK, hN, hA, hR, hG⟩ := X
  intro hm
  rw [hG]
  intro H locs ls hP hD hS hl
  exact lv_isub hx hb hd ((hG ..).mp (k hm) H locs ls hP hD hS hl)
theorem tm_imul (X : IsG G l cc nL own D dA fr lo mc ms) {x y : Int32} (hd : decode cc pc = .ok (.imul, 1)) (k : TM G res M w ce sl (pc + 1) lv (.int (x * y) :: st)) : TM G res M w ce sl pc lv (.int y :: .int x :: st) := by
  obtain ⟨p, e, R, s, m, args, below, meth, c, Q, A, ⟨hx, hb, hml, hown, hts⟩, hK, hN, hA, hR, hG⟩ := X
  intro hm
  rw [hG]
  intro H locs ls hP hD hS hl
  exact lv_imul hx hb hd ((hG ..).mp (k hm) H locs ls hP hD hS hl)
theorem tm_iand (X : IsG G l cc nL own D dA fr lo mc ms) {x y : Int32} (hd : decode cc pc = .ok (.iand, 1)) (k : TM G res M w ce sl (pc + 1) lv (.int (x &&& y) :: st)) : TM G res M w ce sl pc lv (.int y :: .int x :: st) := by
  obtain ⟨p, e, R, s, m, args, below, meth, c, Q, A, ⟨hx, hb, hml, hown, hts⟩, hK, hN, hA, hR, hG⟩ := X
  intro hm
  rw [hG]
  intro H locs ls hP hD hS hl
  exact lv_iand hx hb hd ((hG ..).mp (k hm) H locs ls hP hD hS hl)
theorem tm_ior (X : IsG G l cc nL own D dA fr lo mc ms) {x y : Int32} (hd : decode cc pc = .ok (.ior, 1)) (k : TM G res M w ce sl (pc + 1) lv (.int (x ||| y) :: st)) : TM G res M w ce sl pc lv (.int y :: .int x :: st) := by
  obtain ⟨p, e, R, s, m, args, below, meth, c, Q, A, ⟨hx, hb, hml, hown, hts⟩, hK, hN, hA, hR, hG⟩ := X
  intro hm
  rw [hG]
  intro H locs ls hP hD hS hl
  exact lv_ior hx hb hd ((hG ..).mp (k hm) H locs ls hP hD hS hl)
theorem tm_ishl (X : IsG G l cc nL own D dA fr lo mc ms) {x y : Int32} (hd : decode cc pc = .ok (.ishl, 1)) (k : TM G res M w ce sl (pc + 1) lv (.int (x <<< (y &&& 31)) :: st)) : TM G res M w ce sl pc lv (.int y :: .int x :: st) := by
  obtain ⟨p, e, R, s, m, args, below, meth, c, Q, A, ⟨hx, hb, hml, hown, hts⟩, hK, hN, hA, hR, hG⟩ := X
  intro hm
  rw [hG]
  intro H locs ls hP hD hS hl
  exact lv_ishl hx hb hd ((hG ..).mp (k hm) H locs ls hP hD hS hl)
theorem tm_ishr (X : IsG G l cc nL own D dA fr lo mc ms) {x y : Int32} (hd : decode cc pc = .ok (.ishr, 1)) (k : TM G res M w ce sl (pc + 1) lv (.int (x >>> (y &&& 31)) :: st)) : TM G res M w ce sl pc lv (.int y :: .int x :: st) := by
  obtain ⟨p, e, R, s, m, args, below, meth, c, Q, A, ⟨hx, hb, hml, hown, hts⟩, hK, hN, hA, hR, hG⟩ := X
  intro hm
  rw [hG]
  intro H locs ls hP hD hS hl
  exact lv_ishr hx hb hd ((hG ..).mp (k hm) H locs ls hP hD hS hl)
theorem tm_ineg (X : IsG G l cc nL own D dA fr lo mc ms) {x : Int32} (hd : decode cc pc = .ok (.ineg, 1)) (k : TM G res M w ce sl (pc + 1) lv (.int (-x) :: st)) : TM G res M w ce sl pc lv (.int x :: st) := by
  obtain ⟨p, e, R, s, m, args, below, meth, c, Q, A, ⟨hx, hb, hml, hown, hts⟩, hK, hN, hA, hR, hG⟩ := X
  intro hm
  rw [hG]
  intro H locs ls hP hD hS hl
  exact lv_ineg hx hb hd ((hG ..).mp (k hm) H locs ls hP hD hS hl)
theorem tm_i2b (X : IsG G l cc nL own D dA fr lo mc ms) {x : Int32} (hd : decode cc pc = .ok (.i2b, 1)) (k : TM G res M w ce sl (pc + 1) lv (.int (x.toInt8.toInt32) :: st)) : TM G res M w ce sl pc lv (.int x :: st) := by
  obtain ⟨p, e, R, s, m, args, below, meth, c, Q, A, ⟨hx, hb, hml, hown, hts⟩, hK, hN, hA, hR, hG⟩ := X
  intro hm
  rw [hG]
  intro H locs ls hP hD hS hl
  exact lv_i2b hx hb hd rfl ((hG ..).mp (k hm) H locs ls hP hD hS hl)
theorem tm_idiv (X : IsG G l cc nL own D dA fr lo mc ms) {x y : Int32} (hd : decode cc pc = .ok (.idiv, 1)) (hy : ¬ y = 0) (k : TM G res M w ce sl (pc + 1) lv (.int (x / y) :: st)) : TM G res M w ce sl pc lv (.int y :: .int x :: st) := by
  obtain ⟨p, e, R, s, m, args, below, meth, c, Q, A, ⟨hx, hb, hml, hown, hts⟩, hK, hN, hA, hR, hG⟩ := X
  intro hm
  rw [hG]
  intro H locs ls hP hD hS hl
  exact lv_idiv hx hb hd hy ((hG ..).mp (k hm) H locs ls hP hD hS hl)
theorem tm_idivz (X : IsG G l cc nL own D dA fr lo mc ms) {x y : Int32} (hd : decode cc pc = .ok (.idiv, 1)) (k : TM G res M w ce sl (pc + 1) lv (.int (x / y) :: st)) : TM G res (nz y M) w ce sl pc lv (.int y :: .int x :: st) := by
  obtain ⟨p, e, R, s, m, args, below, meth, c, Q, A, ⟨hx, hb, hml, hown, hts⟩, hK, hN, hA, hR, hG⟩ := X
  intro hm
  rw [hG]
  intro H locs ls hP hD hS hl
  by_cases hy : y = 0
  · rw [nz, if_pos hy] at hm
    cases hm
  · rw [nz, if_neg hy] at hm
    exact lv_idiv hx hb hd hy ((hG ..).mp (k hm) H locs ls hP hD hS hl)
theorem tm_irem (X : IsG G l cc nL own D dA fr lo mc ms) {x y : Int32} (hd : decode cc pc = .ok (.irem, 1)) (hy : ¬ y = 0) (k : TM G res M w ce sl (pc + 1) lv (.int (jrem x y) :: st)) : TM G res M w ce sl pc lv (.int y :: .int x :: st) := by
  obtain ⟨p, e, R, s, m, args, below, meth, c, Q, A, ⟨hx, hb, hml, hown, hts⟩, hK, hN, hA, hR, hG⟩ := X
  intro hm
  rw [hG]
  intro H locs ls hP hD hS hl
  exact lv_irem hx hb hd hy ((hG ..).mp (k hm) H locs ls hP hD hS hl)
theorem tm_iremz (X : IsG G l cc nL own D dA fr lo mc ms) {x y : Int32} (hd : decode cc pc = .ok (.irem, 1)) (k : TM G res M w ce sl (pc + 1) lv (.int (jrem x y) :: st)) : TM G res (nz y M) w ce sl pc lv (.int y :: .int x :: st) := by
  obtain ⟨p, e, R, s, m, args, below, meth, c, Q, A, ⟨hx, hb, hml, hown, hts⟩, hK, hN, hA, hR, hG⟩ := X
  intro hm
  rw [hG]
  intro H locs ls hP hD hS hl
  by_cases hy : y = 0
  · rw [nz, if_pos hy] at hm
    cases hm
  · rw [nz, if_neg hy] at hm
    exact lv_irem hx hb hd hy ((hG ..).mp (k hm) H locs ls hP hD hS hl)
theorem tm_dup (X : IsG G l cc nL own D dA fr lo mc ms) {v : Value} (hd : decode cc pc = .ok (.dup, 1)) (hv : v.category = 1) (k : TM G res M w ce sl (pc + 1) lv (v :: v :: st)) : TM G res M w ce sl pc lv (v :: st) := by
  obtain ⟨p, e, R, s, m, args, below, meth, c, Q, A, ⟨hx, hb, hml, hown, hts⟩, hK, hN, hA, hR, hG⟩ := X
  intro hm
  rw [hG]
  intro H locs ls hP hD hS hl
  exact lv_dup hx hb hd hv ((hG ..).mp (k hm) H locs ls hP hD hS hl)
theorem tm_dup2 (X : IsG G l cc nL own D dA fr lo mc ms) {v u : Value} (hd : decode cc pc = .ok (.dup2, 1)) (hv : v.category = 1) (hu : u.category = 1) (k : TM G res M w ce sl (pc + 1) lv (v :: u :: v :: u :: st)) : TM G res M w ce sl pc lv (v :: u :: st) := by
  obtain ⟨p, e, R, s, m, args, below, meth, c, Q, A, ⟨hx, hb, hml, hown, hts⟩, hK, hN, hA, hR, hG⟩ := X
  intro hm
  rw [hG]
  intro H locs ls hP hD hS hl
  exact lv_dup2_11 hx hb hd hv hu ((hG ..).mp (k hm) H locs ls hP hD hS hl)
theorem tm_pop (X : IsG G l cc nL own D dA fr lo mc ms) {v : Value} (hd : decode cc pc = .ok (.pop, 1)) (hv : v.category = 1) (k : TM G res M w ce sl (pc + 1) lv st) : TM G res M w ce sl pc lv (v :: st) := by
  obtain ⟨p, e, R, s, m, args, below, meth, c, Q, A, ⟨hx, hb, hml, hown, hts⟩, hK, hN, hA, hR, hG⟩ := X
  intro hm
  rw [hG]
  intro H locs ls hP hD hS hl
  exact lv_pop hx hb hd hv ((hG ..).mp (k hm) H locs ls hP hD hS hl)
theorem tm_goto (X : IsG G l cc nL own D dA fr lo mc ms) {off : Int} (tgt : Nat) (hd : decode cc pc = .ok (.goto off, 3)) (ht : (pc : Int) + off = (tgt : Int)) (k : TM G res M w ce sl tgt lv st) : TM G res M w ce sl pc lv st := by
  obtain ⟨p, e, R, s, m, args, below, meth, c, Q, A, ⟨hx, hb, hml, hown, hts⟩, hK, hN, hA, hR, hG⟩ := X
  intro hm
  rw [hG]
  intro H locs ls hP hD hS hl
  exact lv_goto hx hb hd ht ((hG ..).mp (k hm) H locs ls hP hD hS hl)
theorem tm_if_eq (X : IsG G l cc nL own D dA fr lo mc ms) {x : Int32} {off : Int} (tgt : Nat) (hd : decode cc pc = .ok (.ifCond .eq off, 3)) (ht : (pc : Int) + off = (tgt : Int)) (kt : TM G res M1 w ce sl tgt lv st) (kf : TM G res M2 w ce sl (pc + 3) lv st) : TM G res (if x = 0 then M1 else M2) w ce sl pc lv (.int x :: st) := by
  obtain ⟨p, e, R, s, m, args, below, meth, c, Q, A, ⟨hx, hb, hml, hown, hts⟩, hK, hN, hA, hR, hG⟩ := X
  intro hm
  rw [hG]
  intro H locs ls hP hD hS hl
  exact lv_if_eq hx hb hd ht (fun hc => (hG ..).mp (kt (by rw [← hm]; exact (if_pos hc).symm)) H locs ls hP hD hS hl) (fun hc => (hG ..).mp (kf (by rw [← hm]; exact (if_neg hc).symm)) H locs ls hP hD hS hl)
theorem tm_if_ne (X : IsG G l cc nL own D dA fr lo mc ms) {x : Int32} {off : Int} (tgt : Nat) (hd : decode cc pc = .ok (.ifCond .ne off, 3)) (ht : (pc : Int) + off = (tgt : Int)) (kt : TM G res M1 w ce sl tgt lv st) (kf : TM G res M2 w ce sl (pc + 3) lv st) : TM G res (if x = 0 then M2 else M1) w ce sl pc lv (.int x :: st) := by
  obtain ⟨p, e, R, s, m, args, below, meth, c, Q, A, ⟨hx, hb, hml, hown, hts⟩, hK, hN, hA, hR, hG⟩ := X
  intro hm
  rw [hG]
  intro H locs ls hP hD hS hl
  exact lv_if_ne hx hb hd ht (fun hc => (hG ..).mp (kt (by rw [← hm]; exact (if_neg hc).symm)) H locs ls hP hD hS hl) (fun hc => (hG ..).mp (kf (by rw [← hm]; exact (if_pos hc).symm)) H locs ls hP hD hS hl)
theorem tm_if_lt (X : IsG G l cc nL own D dA fr lo mc ms) {x : Int32} {off : Int} (tgt : Nat) (hd : decode cc pc = .ok (.ifCond .lt off, 3)) (ht : (pc : Int) + off = (tgt : Int)) (kt : TM G res M1 w ce sl tgt lv st) (kf : TM G res M2 w ce sl (pc + 3) lv st) : TM G res (if x < 0 then M1 else M2) w ce sl pc lv (.int x :: st) := by
  obtain ⟨p, e, R, s, m, args, below, meth, c, Q, A, ⟨hx, hb, hml, hown, hts⟩, hK, hN, hA, hR, hG⟩ := X
  intro hm
  rw [hG]
  intro H locs ls hP hD hS hl
  exact lv_if_lt hx hb hd ht (fun hc => (hG ..).mp (kt (by rw [← hm]; exact (if_pos hc).symm)) H locs ls hP hD hS hl) (fun hc => (hG ..).mp (kf (by rw [← hm]; exact (if_neg hc).symm)) H locs ls hP hD hS hl)
theorem tm_if_ge (X : IsG G l cc nL own D dA fr lo mc ms) {x : Int32} {off : Int} (tgt : Nat) (hd : decode cc pc = .ok (.ifCond .ge off, 3)) (ht : (pc : Int) + off = (tgt : Int)) (kt : TM G res M1 w ce sl tgt lv st) (kf : TM G res M2 w ce sl (pc + 3) lv st) : TM G res (if 0 ≤ x then M1 else M2) w ce sl pc lv (.int x :: st) := by
  obtain ⟨p, e, R, s, m, args, below, meth, c, Q, A, ⟨hx, hb, hml, hown, hts⟩, hK, hN, hA, hR, hG⟩ := X
  intro hm
  rw [hG]
  intro H locs ls hP hD hS hl
  exact lv_if_ge hx hb hd ht (fun hc => (hG ..).mp (kt (by rw [← hm]; exact (if_pos hc).symm)) H locs ls hP hD hS hl) (fun hc => (hG ..).mp (kf (by rw [← hm]; exact (if_neg hc).symm)) H locs ls hP hD hS hl)
theorem tm_if_gt (X : IsG G l cc nL own D dA fr lo mc ms) {x : Int32} {off : Int} (tgt : Nat) (hd : decode cc pc = .ok (.ifCond .gt off, 3)) (ht : (pc : Int) + off = (tgt : Int)) (kt : TM G res M1 w ce sl tgt lv st) (kf : TM G res M2 w ce sl (pc + 3) lv st) : TM G res (if 0 < x then M1 else M2) w ce sl pc lv (.int x :: st) := by
  obtain ⟨p, e, R, s, m, args, below, meth, c, Q, A, ⟨hx, hb, hml, hown, hts⟩, hK, hN, hA, hR, hG⟩ := X
  intro hm
  rw [hG]
  intro H locs ls hP hD hS hl
  exact lv_if_gt hx hb hd ht (fun hc => (hG ..).mp (kt (by rw [← hm]; exact (if_pos hc).symm)) H locs ls hP hD hS hl) (fun hc => (hG ..).mp (kf (by rw [← hm]; exact (if_neg hc).symm)) H locs ls hP hD hS hl)
theorem tm_if_le (X : IsG G l cc nL own D dA fr lo mc ms) {x : Int32} {off : Int} (tgt : Nat) (hd : decode cc pc = .ok (.ifCond .le off, 3)) (ht : (pc : Int) + off = (tgt : Int)) (kt : TM G res M1 w ce sl tgt lv st) (kf : TM G res M2 w ce sl (pc + 3) lv st) : TM G res (if x ≤ 0 then M1 else M2) w ce sl pc lv (.int x :: st) := by
  obtain ⟨p, e, R, s, m, args, below, meth, c, Q, A, ⟨hx, hb, hml, hown, hts⟩, hK, hN, hA, hR, hG⟩ := X
  intro hm
  rw [hG]
  intro H locs ls hP hD hS hl
  exact lv_if_le hx hb hd ht (fun hc => (hG ..).mp (kt (by rw [← hm]; exact (if_pos hc).symm)) H locs ls hP hD hS hl) (fun hc => (hG ..).mp (kf (by rw [← hm]; exact (if_neg hc).symm)) H locs ls hP hD hS hl)
theorem tm_ic_eq (X : IsG G l cc nL own D dA fr lo mc ms) {x y : Int32} {off : Int} (tgt : Nat) (hd : decode cc pc = .ok (.if_icmp .eq off, 3)) (ht : (pc : Int) + off = (tgt : Int)) (kt : TM G res M1 w ce sl tgt lv st) (kf : TM G res M2 w ce sl (pc + 3) lv st) : TM G res (if x = y then M1 else M2) w ce sl pc lv (.int y :: .int x :: st) := by
  obtain ⟨p, e, R, s, m, args, below, meth, c, Q, A, ⟨hx, hb, hml, hown, hts⟩, hK, hN, hA, hR, hG⟩ := X
  intro hm
  rw [hG]
  intro H locs ls hP hD hS hl
  exact lv_icmp_eq hx hb hd ht (fun hc => (hG ..).mp (kt (by rw [← hm]; exact (if_pos hc).symm)) H locs ls hP hD hS hl) (fun hc => (hG ..).mp (kf (by rw [← hm]; exact (if_neg hc).symm)) H locs ls hP hD hS hl)
theorem tm_ic_ne (X : IsG G l cc nL own D dA fr lo mc ms) {x y : Int32} {off : Int} (tgt : Nat) (hd : decode cc pc = .ok (.if_icmp .ne off, 3)) (ht : (pc : Int) + off = (tgt : Int)) (kt : TM G res M1 w ce sl tgt lv st) (kf : TM G res M2 w ce sl (pc + 3) lv st) : TM G res (if x = y then M2 else M1) w ce sl pc lv (.int y :: .int x :: st) := by
  obtain ⟨p, e, R, s, m, args, below, meth, c, Q, A, ⟨hx, hb, hml, hown, hts⟩, hK, hN, hA, hR, hG⟩ := X
  intro hm
  rw [hG]
  intro H locs ls hP hD hS hl
  exact lv_icmp_ne hx hb hd ht (fun hc => (hG ..).mp (kt (by rw [← hm]; exact (if_neg hc).symm)) H locs ls hP hD hS hl) (fun hc => (hG ..).mp (kf (by rw [← hm]; exact (if_pos hc).symm)) H locs ls hP hD hS hl)
theorem tm_ic_lt (X : IsG G l cc nL own D dA fr lo mc ms) {x y : Int32} {off : Int} (tgt : Nat) (hd : decode cc pc = .ok (.if_icmp .lt off, 3)) (ht : (pc : Int) + off = (tgt : Int)) (kt : TM G res M1 w ce sl tgt lv st) (kf : TM G res M2 w ce sl (pc + 3) lv st) : TM G res (if x < y then M1 else M2) w ce sl pc lv (.int y :: .int x :: st) := by
  obtain ⟨p, e, R, s, m, args, below, meth, c, Q, A, ⟨hx, hb, hml, hown, hts⟩, hK, hN, hA, hR, hG⟩ := X
  intro hm
  rw [hG]
  intro H locs ls hP hD hS hl
  exact lv_icmp_lt hx hb hd ht (fun hc => (hG ..).mp (kt (by rw [← hm]; exact (if_pos hc).symm)) H locs ls hP hD hS hl) (fun hc => (hG ..).mp (kf (by rw [← hm]; exact (if_neg hc).symm)) H locs ls hP hD hS hl)
theorem tm_ic_ge (X : IsG G l cc nL own D dA fr lo mc ms) {x y : Int32} {off : Int} (tgt : Nat) (hd : decode cc pc = .ok (.if_icmp .ge off, 3)) (ht : (pc : Int) + off = (tgt : Int)) (kt : TM G res M1 w ce sl tgt lv st) (kf : TM G res M2 w ce sl (pc + 3) lv st) : TM G res (if y ≤ x then M1 else M2) w ce sl pc lv (.int y :: .int x :: st) := by
  obtain ⟨p, e, R, s, m, args, below, meth, c, Q, A, ⟨hx, hb, hml, hown, hts⟩, hK, hN, hA, hR, hG⟩ := X
  intro hm
  rw [hG]
  intro H locs ls hP hD hS hl
  exact lv_icmp_ge hx hb hd ht (fun hc => (hG ..).mp (kt (by rw [← hm]; exact (if_pos hc).symm)) H locs ls hP hD hS hl) (fun hc => (hG ..).mp (kf (by rw [← hm]; exact (if_neg hc).symm)) H locs ls hP hD hS hl)
theorem tm_ic_gt (X : IsG G l cc nL own D dA fr lo mc ms) {x y : Int32} {off : Int} (tgt : Nat) (hd : decode cc pc = .ok (.if_icmp .gt off, 3)) (ht : (pc : Int) + off = (tgt : Int)) (kt : TM G res M1 w ce sl tgt lv st) (kf : TM G res M2 w ce sl (pc + 3) lv st) : TM G res (if y < x then M1 else M2) w ce sl pc lv (.int y :: .int x :: st) := by
  obtain ⟨p, e, R, s, m, args, below, meth, c, Q, A, ⟨hx, hb, hml, hown, hts⟩, hK, hN, hA, hR, hG⟩ := X
  intro hm
  rw [hG]
  intro H locs ls hP hD hS hl
  exact lv_icmp_gt hx hb hd ht (fun hc => (hG ..).mp (kt (by rw [← hm]; exact (if_pos hc).symm)) H locs ls hP hD hS hl) (fun hc => (hG ..).mp (kf (by rw [← hm]; exact (if_neg hc).symm)) H locs ls hP hD hS hl)
theorem tm_ic_le (X : IsG G l cc nL own D dA fr lo mc ms) {x y : Int32} {off : Int} (tgt : Nat) (hd : decode cc pc = .ok (.if_icmp .le off, 3)) (ht : (pc : Int) + off = (tgt : Int)) (kt : TM G res M1 w ce sl tgt lv st) (kf : TM G res M2 w ce sl (pc + 3) lv st) : TM G res (if x ≤ y then M1 else M2) w ce sl pc lv (.int y :: .int x :: st) := by
  obtain ⟨p, e, R, s, m, args, below, meth, c, Q, A, ⟨hx, hb, hml, hown, hts⟩, hK, hN, hA, hR, hG⟩ := X
  intro hm
  rw [hG]
  intro H locs ls hP hD hS hl
  exact lv_icmp_le hx hb hd ht (fun hc => (hG ..).mp (kt (by rw [← hm]; exact (if_pos hc).symm)) H locs ls hP hD hS hl) (fun hc => (hG ..).mp (kf (by rw [← hm]; exact (if_neg hc).symm)) H locs ls hP hD hS hl)
/-- a switch over 0 .. n-1 (lo = 0): one of the cases, by the value -/
def sw {ρ : Type} (x : Int32) (cs : List (Option ρ)) (d : Option ρ) : Option ρ := if x < 0 ∨ cs.length ≤ x.toNatClampNeg then d else (cs[x.toNatClampNeg]?).getD d
/-- the world's family w holds an int-like array at the list's place q: place k of the pure heap, n long, at the address a, of the array class t -/
def AR (w : Hp → va_W) (q k a n : Nat) (cA : ClassId) : Prop := ∀ h : Hp, (w h)[q]? = some (a, .inl (cA, n, .inl (h k))) ∧ ∀ (i : Nat) (v : Int32), (w h).set q (a, .inl (cA, n, .inl (upd (h k) i v))) = w (u2 h k i v)
/-- an int-like field f of the object (class number ci) at the list's place q, place k of the pure heap -/
def FI (w : Hp → va_W) (q k a ci f : Nat) : Prop := ∀ h : Hp, ∃ fs : List Value, (w h)[q]? = some (a, .inr (ci, fs)) ∧ fs[f]? = some (.int (h k f)) ∧ f < fs.length ∧ ∀ v : Int32, (w h).set q (a, .inr (ci, fs.set f (.int v))) = w (u2 h k f v)
/-- a reference field f of the object at the list's place q: the address b -/
def FR (w : va_W) (q a ci f b : Nat) : Prop := ∃ fs : List Value, w[q]? = some (a, .inr (ci, fs)) ∧ fs[f]? = some (.ref b)
variable {wf : Hp → va_W} {h : Hp} {q k0 a n ci f b : Nat} {E : Hp → Option ρ}
theorem tm_iaload (X : IsG G l cc nL own D dA fr lo mc ms) {i : Int32} (ha : AR wf q k0 a n (dA 0)) (hd : decode cc pc = .ok (.iaload, 1)) (k : TM G res M (wf h) ce sl (pc + 1) lv (.int (h k0 i.toNatClampNeg) :: st)) : TM G res (ck i n M) (wf h) ce sl pc lv (.int i :: .ref a :: st) := by
  obtain ⟨p, e, R, s, m, args, below, meth, c, Q, A, ⟨hx, hb, hml, hown, hts⟩, hK, hN, hA, hR, hG⟩ := X
  intro hm
  rw [hG]
  intro H locs ls hP hD hS hl
  unfold ck at hm
  by_cases hin : vp_in i n
  · rw [if_neg hin] at hm
    exact va_iald hx hb hK hP q 0 (ha h).1 rfl hin hd ((hG ..).mp (k hm) H locs ls hP hD hS hl)
  · rw [if_pos (Classical.byContradiction hin)] at hm
    cases hm
theorem tm_baloadZ (X : IsG G l cc nL own D dA fr lo mc ms) {i : Int32} (ha : AR wf q k0 a n (dA 1)) (hd : decode cc pc = .ok (.baload, 1)) (k : TM G res M (wf h) ce sl (pc + 1) lv (.int (h k0 i.toNatClampNeg) :: st)) : TM G res (ck i n M) (wf h) ce sl pc lv (.int i :: .ref a :: st) := by
  obtain ⟨p, e, R, s, m, args, below, meth, c, Q, A, ⟨hx, hb, hml, hown, hts⟩, hK, hN, hA, hR, hG⟩ := X
  intro hm
  rw [hG]
  intro H locs ls hP hD hS hl
  unfold ck at hm
  by_cases hin : vp_in i n
  · rw [if_neg hin] at hm
    exact va_zald hx hb hK hP q 1 (ha h).1 rfl hin hd ((hG ..).mp (k hm) H locs ls hP hD hS hl)
  · rw [if_pos (Classical.byContradiction hin)] at hm
    cases hm
theorem tm_baloadB (X : IsG G l cc nL own D dA fr lo mc ms) {i : Int32} (ha : AR wf q k0 a n (dA 2)) (hd : decode cc pc = .ok (.baload, 1)) (k : TM G res M (wf h) ce sl (pc + 1) lv (.int (h k0 i.toNatClampNeg) :: st)) : TM G res (ck i n M) (wf h) ce sl pc lv (.int i :: .ref a :: st) := by
  obtain ⟨p, e, R, s, m, args, below, meth, c, Q, A, ⟨hx, hb, hml, hown, hts⟩, hK, hN, hA, hR, hG⟩ := X
  intro hm
  rw [hG]
  intro H locs ls hP hD hS hl
  unfold ck at hm
  by_cases hin : vp_in i n
  · rw [if_neg hin] at hm
    exact va_bald hx hb hK hP q 2 (ha h).1 rfl hin hd ((hG ..).mp (k hm) H locs ls hP hD hS hl)
  · rw [if_pos (Classical.byContradiction hin)] at hm
    cases hm
theorem tm_iastore (X : IsG G l cc nL own D dA fr lo mc ms) {i v : Int32} (ha : AR wf q k0 a n (dA 0)) (hd : decode cc pc = .ok (.iastore, 1)) (k : ∀ h' : Hp, TM G res (E h') (wf h') ce sl (pc + 1) lv st) : TM G res (ck i n (nm (u2 h k0 i.toNatClampNeg (v)) E)) (wf h) ce sl pc lv (.int v :: .int i :: .ref a :: st) := by
  obtain ⟨p, e, R, s, m, args, below, meth, c, Q, A, ⟨hx, hb, hml, hown, hts⟩, hK, hN, hA, hR, hG⟩ := X
  intro hm
  rw [hG]
  intro H locs ls hP hD hS hl
  unfold ck at hm
  by_cases hin : vp_in i n
  · rw [if_neg hin] at hm
    exact va_iast hx hb hK hP hD hS q 0 (ha h).1 rfl hin hd (fun H9 locs9 hP9 hD9 hS9 => (hG ..).mp (k _ hm) H9 locs9 ls ((ha h).2 _ _ ▸ hP9) ((ha h).2 _ _ ▸ hD9) hS9 hl)
  · rw [if_pos (Classical.byContradiction hin)] at hm
    cases hm
theorem tm_bastoreZ (X : IsG G l cc nL own D dA fr lo mc ms) {i v : Int32} (ha : AR wf q k0 a n (dA 1)) (hd : decode cc pc = .ok (.bastore, 1)) (k : ∀ h' : Hp, TM G res (E h') (wf h') ce sl (pc + 1) lv st) : TM G res (ck i n (nm (u2 h k0 i.toNatClampNeg (vp_nar .boolean v)) E)) (wf h) ce sl pc lv (.int v :: .int i :: .ref a :: st) := by
  obtain ⟨p, e, R, s, m, args, below, meth, c, Q, A, ⟨hx, hb, hml, hown, hts⟩, hK, hN, hA, hR, hG⟩ := X
  intro hm
  rw [hG]
  intro H locs ls hP hD hS hl
  unfold ck at hm
  by_cases hin : vp_in i n
  · rw [if_neg hin] at hm
    exact va_zast hx hb hK hP hD hS q 1 (ha h).1 rfl hin hd (fun H9 locs9 hP9 hD9 hS9 => (hG ..).mp (k _ hm) H9 locs9 ls ((ha h).2 _ _ ▸ hP9) ((ha h).2 _ _ ▸ hD9) hS9 hl)
  · rw [if_pos (Classical.byContradiction hin)] at hm
    cases hm
theorem tm_bastoreB (X : IsG G l cc nL own D dA fr lo mc ms) {i v : Int32} (ha : AR wf q k0 a n (dA 2)) (hd : decode cc pc = .ok (.bastore, 1)) (k : ∀ h' : Hp, TM G res (E h') (wf h') ce sl (pc + 1) lv st) : TM G res (ck i n (nm (u2 h k0 i.toNatClampNeg (vp_nar .byte v)) E)) (wf h) ce sl pc lv (.int v :: .int i :: .ref a :: st) := by
  obtain ⟨p, e, R, s, m, args, below, meth, c, Q, A, ⟨hx, hb, hml, hown, hts⟩, hK, hN, hA, hR, hG⟩ := X
  intro hm
  rw [hG]
  intro H locs ls hP hD hS hl
  unfold ck at hm
  by_cases hin : vp_in i n
  · rw [if_neg hin] at hm
    exact va_bast hx hb hK hP hD hS q 2 (ha h).1 rfl hin hd (fun H9 locs9 hP9 hD9 hS9 => (hG ..).mp (k _ hm) H9 locs9 ls ((ha h).2 _ _ ▸ hP9) ((ha h).2 _ _ ▸ hD9) hS9 hl)
  · rw [if_pos (Classical.byContradiction hin)] at hm
    cases hm
theorem tm_arraylength (X : IsG G l cc nL own D dA fr lo mc ms) {v : Int32} {tt : Nat} {ty : FieldType} (ha : AR wf q k0 a n (dA tt)) (ht : (tyA dA)[tt]? = some (dA tt, ty)) (hv : Int32.ofNat n = v) (hd : decode cc pc = .ok (.arraylength, 1)) (k : TM G res M (wf h) ce sl (pc + 1) lv (.int v :: st)) : TM G res M (wf h) ce sl pc lv (.ref a :: st) := by
  obtain ⟨p, e, R, s, m, args, below, meth, c, Q, A, ⟨hx, hb, hml, hown, hts⟩, hK, hN, hA, hR, hG⟩ := X
  intro hm
  rw [hG]
  intro H locs ls hP hD hS hl
  exact va_alen hx hb hK hP q tt (ha h).1 ht hv hd ((hG ..).mp (k hm) H locs ls hP hD hS hl)
/-- an array of n int arrays at the list's place q: its rows' addresses -/
def AA (w : va_W) (q a n : Nat) (cA : ClassId) (g : Nat → Nat) : Prop := w[q]? = some (a, .inl (cA, n, .inr (.inr (.inr (.inr (fun i => some (g i)))))))
theorem tm_aaload (X : IsG G l cc nL own D dA fr lo mc ms) {i : Int32} {g : Nat → Nat} (ha : AA w q a n (dA 3) g) (hd : decode cc pc = .ok (.aaload, 1)) (k : TM G res M w ce sl (pc + 1) lv (.ref (g i.toNatClampNeg) :: st)) : TM G res (ck i n M) w ce sl pc lv (.int i :: .ref a :: st) := by
  obtain ⟨p, e, R, s, m, args, below, meth, c, Q, A, ⟨hx, hb, hml, hown, hts⟩, hK, hN, hA, hR, hG⟩ := X
  intro hm
  rw [hG]
  intro H locs ls hP hD hS hl
  unfold ck at hm
  by_cases hin : vp_in i n
  · rw [if_neg hin] at hm
    have hlt : i.toNatClampNeg < n := Nat.not_le.mp fun q => hin (Or.inr q)
    exact W.aald (v := .ref (g i.toNatClampNeg)) (ty := .array .int) hx hb (hP q _ ha) ((hK.2 3 _ rfl).1 n (fun j => va_rf (some (g j)))) rfl (fun q => by cases q) (by show ¬ (i < 0 ∨ (arrV _ _ _).slots.size ≤ _); rw [arrV_size]; exact hin) (by show (arrV _ _ _).slots[_]? = _; rw [arrV_read _ _ hlt]; rfl) rfl rfl hd ((hG ..).mp (k hm) H locs ls hP hD hS hl)
  · rw [if_pos (Classical.byContradiction hin)] at hm
    cases hm
theorem tm_getI (X : IsG G l cc nL own D dA fr lo mc ms) {C : String} {T0 : u_T} {N index : Nat} {ref : String} (ha : FI wf q k0 a ci f) (hin : ∀ w ∈ u_ws C T0 N, w ∈ lw_all) (hc : vwCl[ci]? = some (C, T0, N)) (hk : f < N) (hlk : Cond.fieldLink own index ref (T0 f).2.1 (T0 f).2.2.1 ∈ lw_all) (hsm : ref = (T0 f).1) (hd : decode cc pc = .ok (.getfield index, 3)) (k : TM G res M (wf h) ce sl (pc + 3) lv (.int (h k0 f) :: st)) : TM G res M (wf h) ce sl pc lv (.ref a :: st) := by
  obtain ⟨p, e, R, s, m, args, below, meth, c, Q, A, ⟨hx, hb, hml, hown, hts⟩, hK, hN, hA, hR, hG⟩ := X
  intro hm
  rw [hG]
  intro H locs ls hP hD hS hl
  obtain ⟨fs, h1, h2, h3, h4⟩ := ha h
  exact va_get hx hb hts hin hown hK hP q h1 hc f hk (hts _ hlk) (fun _ h9 => by rw [hsm]; exact h9) h2 hd ((hG ..).mp (k hm) H locs ls hP hD hS hl)
theorem tm_getR (X : IsG G l cc nL own D dA fr lo mc ms) {C : String} {T0 : u_T} {N index : Nat} {ref : String} (ha : FR w q a ci f b) (hin : ∀ w ∈ u_ws C T0 N, w ∈ lw_all) (hc : vwCl[ci]? = some (C, T0, N)) (hk : f < N) (hlk : Cond.fieldLink own index ref (T0 f).2.1 (T0 f).2.2.1 ∈ lw_all) (hsm : ref = (T0 f).1) (hd : decode cc pc = .ok (.getfield index, 3)) (k : TM G res M w ce sl (pc + 3) lv (.ref b :: st)) : TM G res M w ce sl pc lv (.ref a :: st) := by
  obtain ⟨p, e, R, s, m, args, below, meth, c, Q, A, ⟨hx, hb, hml, hown, hts⟩, hK, hN, hA, hR, hG⟩ := X
  intro hm
  rw [hG]
  intro H locs ls hP hD hS hl
  obtain ⟨fs, h1, h2⟩ := ha
  exact va_get hx hb hts hin hown hK hP q h1 hc f hk (hts _ hlk) (fun _ h9 => by rw [hsm]; exact h9) h2 hd ((hG ..).mp (k hm) H locs ls hP hD hS hl)
theorem tm_getIN (X : IsG G l cc nL own D dA fr lo mc ms) {C : String} {T0 : u_T} {N index : Nat} {ref : String}{host : String} (ha : FI wf q k0 a ci f) (hin : ∀ w ∈ u_ws C T0 N, w ∈ lw_all) (hc : vwCl[ci]? = some (C, T0, N)) (hk : f < N) (hlk : Cond.fieldLinkNest own index ref (T0 f).2.1 (T0 f).2.2.1 host ∈ lw_tbl) (hsm : ref = (T0 f).1) (hd : decode cc pc = .ok (.getfield index, 3)) (k : TM G res M (wf h) ce sl (pc + 3) lv (.int (h k0 f) :: st)) : TM G res M (wf h) ce sl pc lv (.ref a :: st) := by
  obtain ⟨p, e, R, s, m, args, below, meth, c, Q, A, ⟨hx, hb, hml, hown, hts⟩, hK, hN, hA, hR, hG⟩ := X
  intro hm
  rw [hG]
  intro H locs ls hP hD hS hl
  obtain ⟨fs, h1, h2, h3, h4⟩ := ha h
  exact va_getN hx hb hts hin hown hK hP q h1 hc f hk (va_Nw.use rfl (hN.1 _ hlk rfl)) (fun _ h9 => by rw [hsm]; exact h9) h2 hd ((hG ..).mp (k hm) H locs ls hP hD hS hl)
theorem tm_getRN (X : IsG G l cc nL own D dA fr lo mc ms) {C : String} {T0 : u_T} {N index : Nat} {ref : String}{host : String} (ha : FR w q a ci f b) (hin : ∀ w ∈ u_ws C T0 N, w ∈ lw_all) (hc : vwCl[ci]? = some (C, T0, N)) (hk : f < N) (hlk : Cond.fieldLinkNest own index ref (T0 f).2.1 (T0 f).2.2.1 host ∈ lw_tbl) (hsm : ref = (T0 f).1) (hd : decode cc pc = .ok (.getfield index, 3)) (k : TM G res M w ce sl (pc + 3) lv (.ref b :: st)) : TM G res M w ce sl pc lv (.ref a :: st) := by
  obtain ⟨p, e, R, s, m, args, below, meth, c, Q, A, ⟨hx, hb, hml, hown, hts⟩, hK, hN, hA, hR, hG⟩ := X
  intro hm
  rw [hG]
  intro H locs ls hP hD hS hl
  obtain ⟨fs, h1, h2⟩ := ha
  exact va_getN hx hb hts hin hown hK hP q h1 hc f hk (va_Nw.use rfl (hN.1 _ hlk rfl)) (fun _ h9 => by rw [hsm]; exact h9) h2 hd ((hG ..).mp (k hm) H locs ls hP hD hS hl)
theorem tm_putI (X : IsG G l cc nL own D dA fr lo mc ms) {C : String} {T0 : u_T} {N index : Nat} {ref : String} {v : Int32} (ha : FI wf q k0 a ci f) (hin : ∀ w ∈ u_ws C T0 N, w ∈ lw_all) (hc : vwCl[ci]? = some (C, T0, N)) (hk : f < N) (ty0 : Nat → FieldType) (hty : ∀ k, k < N → parseFieldDescriptor (T0 k).2.2.1 = some (ty0 k)) (hnm : ∀ a, a < N → ∀ b, b < N → a ≠ b → (T0 a).2.1 ≠ (T0 b).2.1) (hfin : (T0 f).2.2.2 = false) (hint : ty0 f = .int) (hlk : Cond.fieldLink own index ref (T0 f).2.1 (T0 f).2.2.1 ∈ lw_all) (hsm : ref = (T0 f).1) (hd : decode cc pc = .ok (.putfield index, 3)) (k : ∀ h' : Hp, TM G res (E h') (wf h') ce sl (pc + 3) lv st) : TM G res (nm (u2 h k0 f v) E) (wf h) ce sl pc lv (.int v :: .ref a :: st) := by
  obtain ⟨p, e, R, s, m, args, below, meth, c, Q, A, ⟨hx, hb, hml, hown, hts⟩, hK, hN, hA, hR, hG⟩ := X
  intro hm
  rw [hG]
  intro H locs ls hP hD hS hl
  obtain ⟨fs, h1, h2, h3, h4⟩ := ha h
  exact va_put (ty := .int) hx hb hts hin ty0 hty hnm hown hK hP hD hS q h1 hc f hk (hts _ hlk) (fun _ h9 => by rw [hsm]; exact h9) hfin (by rw [hty f hk, hint]) rfl rfl h3 hd (fun H9 locs9 hP9 hD9 hS9 => (hG ..).mp (k _ hm) H9 locs9 ls (h4 v ▸ hP9) (h4 v ▸ hD9) hS9 hl)
theorem tm_putZ (X : IsG G l cc nL own D dA fr lo mc ms) {C : String} {T0 : u_T} {N index : Nat} {ref : String} {v : Int32} (ha : FI wf q k0 a ci f) (hin : ∀ w ∈ u_ws C T0 N, w ∈ lw_all) (hc : vwCl[ci]? = some (C, T0, N)) (hk : f < N) (ty0 : Nat → FieldType) (hty : ∀ k, k < N → parseFieldDescriptor (T0 k).2.2.1 = some (ty0 k)) (hnm : ∀ a, a < N → ∀ b, b < N → a ≠ b → (T0 a).2.1 ≠ (T0 b).2.1) (hfin : (T0 f).2.2.2 = false) (hint : ty0 f = .boolean) (hn : narrow .boolean (.int v) = .int v) (hf9 : fits .boolean (.int v) = true) (hlk : Cond.fieldLink own index ref (T0 f).2.1 (T0 f).2.2.1 ∈ lw_all) (hsm : ref = (T0 f).1) (hd : decode cc pc = .ok (.putfield index, 3)) (k : ∀ h' : Hp, TM G res (E h') (wf h') ce sl (pc + 3) lv st) : TM G res (nm (u2 h k0 f v) E) (wf h) ce sl pc lv (.int v :: .ref a :: st) := by
  obtain ⟨p, e, R, s, m, args, below, meth, c, Q, A, ⟨hx, hb, hml, hown, hts⟩, hK, hN, hA, hR, hG⟩ := X
  intro hm
  rw [hG]
  intro H locs ls hP hD hS hl
  obtain ⟨fs, h1, h2, h3, h4⟩ := ha h
  exact va_put (ty := .boolean) hx hb hts hin ty0 hty hnm hown hK hP hD hS q h1 hc f hk (hts _ hlk) (fun _ h9 => by rw [hsm]; exact h9) hfin (by rw [hty f hk, hint]) hn hf9 h3 hd (fun H9 locs9 hP9 hD9 hS9 => (hG ..).mp (k _ hm) H9 locs9 ls (h4 v ▸ hP9) (h4 v ▸ hD9) hS9 hl)
theorem tm_putIN (X : IsG G l cc nL own D dA fr lo mc ms) {C : String} {T0 : u_T} {N index : Nat} {ref : String}{host : String} {v : Int32} (ha : FI wf q k0 a ci f) (hin : ∀ w ∈ u_ws C T0 N, w ∈ lw_all) (hc : vwCl[ci]? = some (C, T0, N)) (hk : f < N) (ty0 : Nat → FieldType) (hty : ∀ k, k < N → parseFieldDescriptor (T0 k).2.2.1 = some (ty0 k)) (hnm : ∀ a, a < N → ∀ b, b < N → a ≠ b → (T0 a).2.1 ≠ (T0 b).2.1) (hfin : (T0 f).2.2.2 = false) (hint : ty0 f = .int) (hlk : Cond.fieldLinkNest own index ref (T0 f).2.1 (T0 f).2.2.1 host ∈ lw_tbl) (hsm : ref = (T0 f).1) (hd : decode cc pc = .ok (.putfield index, 3)) (k : ∀ h' : Hp, TM G res (E h') (wf h') ce sl (pc + 3) lv st) : TM G res (nm (u2 h k0 f v) E) (wf h) ce sl pc lv (.int v :: .ref a :: st) := by
  obtain ⟨p, e, R, s, m, args, below, meth, c, Q, A, ⟨hx, hb, hml, hown, hts⟩, hK, hN, hA, hR, hG⟩ := X
  intro hm
  rw [hG]
  intro H locs ls hP hD hS hl
  obtain ⟨fs, h1, h2, h3, h4⟩ := ha h
  exact va_putN (ty := .int) hx hb hts hin ty0 hty hnm hown hK hP hD hS q h1 hc f hk (va_Nw.use rfl (hN.1 _ hlk rfl)) (fun _ h9 => by rw [hsm]; exact h9) hfin (by rw [hty f hk, hint]) rfl rfl h3 hd (fun H9 locs9 hP9 hD9 hS9 => (hG ..).mp (k _ hm) H9 locs9 ls (h4 v ▸ hP9) (h4 v ▸ hD9) hS9 hl)
theorem tm_putZN (X : IsG G l cc nL own D dA fr lo mc ms) {C : String} {T0 : u_T} {N index : Nat} {ref : String}{host : String} {v : Int32} (ha : FI wf q k0 a ci f) (hin : ∀ w ∈ u_ws C T0 N, w ∈ lw_all) (hc : vwCl[ci]? = some (C, T0, N)) (hk : f < N) (ty0 : Nat → FieldType) (hty : ∀ k, k < N → parseFieldDescriptor (T0 k).2.2.1 = some (ty0 k)) (hnm : ∀ a, a < N → ∀ b, b < N → a ≠ b → (T0 a).2.1 ≠ (T0 b).2.1) (hfin : (T0 f).2.2.2 = false) (hint : ty0 f = .boolean) (hn : narrow .boolean (.int v) = .int v) (hf9 : fits .boolean (.int v) = true) (hlk : Cond.fieldLinkNest own index ref (T0 f).2.1 (T0 f).2.2.1 host ∈ lw_tbl) (hsm : ref = (T0 f).1) (hd : decode cc pc = .ok (.putfield index, 3)) (k : ∀ h' : Hp, TM G res (E h') (wf h') ce sl (pc + 3) lv st) : TM G res (nm (u2 h k0 f v) E) (wf h) ce sl pc lv (.int v :: .ref a :: st) := by
  obtain ⟨p, e, R, s, m, args, below, meth, c, Q, A, ⟨hx, hb, hml, hown, hts⟩, hK, hN, hA, hR, hG⟩ := X
  intro hm
  rw [hG]
  intro H locs ls hP hD hS hl
  obtain ⟨fs, h1, h2, h3, h4⟩ := ha h
  exact va_putN (ty := .boolean) hx hb hts hin ty0 hty hnm hown hK hP hD hS q h1 hc f hk (va_Nw.use rfl (hN.1 _ hlk rfl)) (fun _ h9 => by rw [hsm]; exact h9) hfin (by rw [hty f hk, hint]) hn hf9 h3 hd (fun H9 locs9 hP9 hD9 hS9 => (hG ..).mp (k _ hm) H9 locs9 ls (h4 v ▸ hP9) (h4 v ▸ hD9) hS9 hl)
end ROWS2
