set_option maxRecDepth 100000
section ROWS3
variable {G : Gty} {l : Launch} {cc : ByteArray} {nL : Nat} {own : String} {D : va_G} {dA : Nat → ClassId} {fr lo mc ms : Nat} {ρ : Type} {res : ρ} {M M1 M2 : Option ρ} {w w' : va_W} {ce sl pc : Nat} {lv : List (Nat × Value)} {st : List Value}
variable {wf : Hp → va_W} {h : Hp} {q k0 a n ci f b : Nat} {E : Hp → Option ρ}
theorem tm_nmI {e : Int32} {F : Int32 → Option ρ} (k : ∀ x : Int32, TM G res (F x) w ce sl pc lv (.int x :: st)) : TM G res (nm e F) w ce sl pc lv (.int e :: st) := k e
theorem tm_same {M' : Option ρ} {w' : va_W} {pc' : Nat} {lv' : List (Nat × Value)} {st' : List Value} (h1 : M = M') (h2 : w = w') (h3 : pc = pc') (h4 : lv = lv') (h5 : st = st') (k : TM G res M' w' ce sl pc' lv' st') : TM G res M w ce sl pc lv st := by subst h1; subst h2; subst h3; subst h4; subst h5; exact k
/-- returns -/
theorem tm_retI {v r : Int32} (hI : RTi G cc w mc ms r) (hd : decode cc pc = .ok (.ireturn, 1)) : TM G r (some v) w mc ms pc lv [.int v] := fun e => by cases e; exact hI pc lv hd
theorem tm_retIH {v r : Int32} {h2 h' : Hp} (hI : RTi G cc (wf h') mc ms r) (hd : decode cc pc = .ok (.ireturn, 1)) : TM G (r, h') (some (v, h2)) (wf h2) mc ms pc lv [.int v] := fun e => by cases e; exact hI pc lv hd
theorem tm_retZ {v r : Int32} (hZ : r = 0 ∨ r = 1 → RTi G cc w mc ms r) (hd : decode cc pc = .ok (.ireturn, 1)) : TM G r (bz v (some v)) w mc ms pc lv [.int v] := fun e => by
  unfold bz at e
  split at e
  · rename_i hv
    cases e
    exact hZ hv pc lv hd
  · cases e
theorem tm_retZH {v r : Int32} {h2 h' : Hp} (hZ : r = 0 ∨ r = 1 → RTi G cc (wf h') mc ms r) (hd : decode cc pc = .ok (.ireturn, 1)) : TM G (r, h') (bz v (some (v, h2))) (wf h2) mc ms pc lv [.int v] := fun e => by
  unfold bz at e
  split at e
  · rename_i hv
    cases e
    exact hZ hv pc lv hd
  · cases e
theorem tm_retV {h2 h' : Hp} (hV : RTv G cc (wf h') mc ms) (hd : decode cc pc = .ok (.return_, 1)) : TM G h' (some h2) (wf h2) mc ms pc lv [] := fun e => by cases e; exact hV pc lv hd
theorem tm_retVU {u : Unit} (hV : RTv G cc w mc ms) (hd : decode cc pc = .ok (.return_, 1)) : TM G u (some ()) w mc ms pc lv [] := fun _ => hV pc lv hd
theorem tm_retA {h2 h' : Hp} {v : Value} (hR : RTa G cc (wf h') mc ms v) (hd : decode cc pc = .ok (.areturn, 1)) : TM G h' (some h2) (wf h2) mc ms pc lv [v] := fun e => by cases e; exact hR pc lv hd
theorem tm_ldcw (X : IsG G l cc nL own D dA fr lo mc ms) {index : Nat} (v : Int32) (hc : Jvm.Cond.constant own index v ∈ lw_all) (hd : decode cc pc = .ok (.ldc_w index, 3)) (k : TM G res M w ce sl (pc + 3) lv (.int v :: st)) : TM G res M w ce sl pc lv st := by
  obtain ⟨p, e, R, s, m, args, below, meth, c, Q, A, ⟨hx, hb, hml, hown, hts⟩, hK, hN, hA, hR, hG⟩ := X
  intro hm
  rw [hG]
  intro H locs ls hP hD hS hl
  exact lv_ldcw hx hb hown (hts _ hc) hd ((hG ..).mp (k hm) H locs ls hP hD hS hl)
def jmax (x y : Int32) : Int32 := if x < y then y else x
def jmin (x y : Int32) : Int32 := if y < x then y else x
def jabs (x : Int32) : Int32 := if 0 ≤ x then x else 0 - x
theorem tm_mmax (X : IsG G l cc nL own D dA fr lo mc ms) {x y : Int32} {index : Nat} (hlk : Cond.methodLink own index Lib.Math.max.name ∈ lw_all) (hfr : 1 ≤ fr) (hlo : (st.map fun v => v.category).sum + 13 ≤ lo) (hf : ce ≤ mc ∧ sl ≤ ms) (hd : decode cc pc = .ok (.invokestatic index, 3)) (k : TM G res M w ce sl (pc + 3) lv (.int (jmax x y) :: st)) : TM G res M w ce sl pc lv (.int y :: .int x :: st) := by
  obtain ⟨p, e, R, s, m, args, below, meth, c, Q, A, ⟨hx, hb, hml, hown, hts⟩, hK, hN, hA, hR, hG⟩ := X
  intro hm
  rw [hG]
  intro H locs ls hP hD hS hl
  obtain ⟨h1, h2, h3, h4⟩ := hR
  exact va_mmax hx hb (by rw [hml]; exact hl.1.symm) hown (hts _ hlk) (hts _ q413) (hts _ q126) (hts _ q414) (by rw [h1]; exact hfr) (by rw [h2]; exact hlo) (by rw [h3]; exact hf.1) (by rw [h4]; exact hf.2) hd ((hG ..).mp (k hm) H locs ls hP hD hS hl)
theorem tm_mmin (X : IsG G l cc nL own D dA fr lo mc ms) {x y : Int32} {index : Nat} (hlk : Cond.methodLink own index Lib.Math.min.name ∈ lw_all) (hfr : 1 ≤ fr) (hlo : (st.map fun v => v.category).sum + 13 ≤ lo) (hf : ce ≤ mc ∧ sl ≤ ms) (hd : decode cc pc = .ok (.invokestatic index, 3)) (k : TM G res M w ce sl (pc + 3) lv (.int (jmin x y) :: st)) : TM G res M w ce sl pc lv (.int y :: .int x :: st) := by
  obtain ⟨p, e, R, s, m, args, below, meth, c, Q, A, ⟨hx, hb, hml, hown, hts⟩, hK, hN, hA, hR, hG⟩ := X
  intro hm
  rw [hG]
  intro H locs ls hP hD hS hl
  obtain ⟨h1, h2, h3, h4⟩ := hR
  exact va_mmin hx hb (by rw [hml]; exact hl.1.symm) hown (hts _ hlk) (hts _ q416) (hts _ q126) (hts _ q417) (by rw [h1]; exact hfr) (by rw [h2]; exact hlo) (by rw [h3]; exact hf.1) (by rw [h4]; exact hf.2) hd ((hG ..).mp (k hm) H locs ls hP hD hS hl)
theorem tm_mabs (X : IsG G l cc nL own D dA fr lo mc ms) {x : Int32} {index : Nat} (hlk : Cond.methodLink own index Lib.Math.abs.name ∈ lw_all) (hfr : 1 ≤ fr) (hlo : (st.map fun v => v.category).sum + 13 ≤ lo) (hf : ce ≤ mc ∧ sl ≤ ms) (hd : decode cc pc = .ok (.invokestatic index, 3)) (k : TM G res M w ce sl (pc + 3) lv (.int (jabs x) :: st)) : TM G res M w ce sl pc lv (.int x :: st) := by
  obtain ⟨p, e, R, s, m, args, below, meth, c, Q, A, ⟨hx, hb, hml, hown, hts⟩, hK, hN, hA, hR, hG⟩ := X
  intro hm
  rw [hG]
  intro H locs ls hP hD hS hl
  obtain ⟨h1, h2, h3, h4⟩ := hR
  exact va_mabs hx hb (by rw [hml]; exact hl.1.symm) hown (hts _ hlk) (hts _ q950) (hts _ q126) (hts _ q951) (by rw [h1]; exact hfr) (by rw [h2]; exact hlo) (by rw [h3]; exact hf.1) (by rw [h4]; exact hf.2) hd ((hG ..).mp (k hm) H locs ls hP hD hS hl)
theorem tm_ialoadL (X : IsG G l cc nL own D dA fr lo mc ms) {i : Int32} {j : Nat} (ha : AR wf q k0 a n (dA 0)) (hin : vp_in i n) (hj : i.toNatClampNeg = j) (hd : decode cc pc = .ok (.iaload, 1)) (k : TM G res M (wf h) ce sl (pc + 1) lv (.int (h k0 j) :: st)) : TM G res M (wf h) ce sl pc lv (.int i :: .ref a :: st) := by
  obtain ⟨p, e, R, s, m, args, below, meth, c, Q, A, ⟨hx, hb, hml, hown, hts⟩, hK, hN, hA, hR, hG⟩ := X
  intro hm
  rw [hG]
  intro H locs ls hP hD hS hl
  subst hj
  exact va_iald hx hb hK hP q 0 (ha h).1 rfl hin hd ((hG ..).mp (k hm) H locs ls hP hD hS hl)
theorem tm_baloadZL (X : IsG G l cc nL own D dA fr lo mc ms) {i : Int32} {j : Nat} (ha : AR wf q k0 a n (dA 1)) (hin : vp_in i n) (hj : i.toNatClampNeg = j) (hd : decode cc pc = .ok (.baload, 1)) (k : TM G res M (wf h) ce sl (pc + 1) lv (.int (h k0 j) :: st)) : TM G res M (wf h) ce sl pc lv (.int i :: .ref a :: st) := by
  obtain ⟨p, e, R, s, m, args, below, meth, c, Q, A, ⟨hx, hb, hml, hown, hts⟩, hK, hN, hA, hR, hG⟩ := X
  intro hm
  rw [hG]
  intro H locs ls hP hD hS hl
  subst hj
  exact va_zald hx hb hK hP q 1 (ha h).1 rfl hin hd ((hG ..).mp (k hm) H locs ls hP hD hS hl)
theorem tm_baloadBL (X : IsG G l cc nL own D dA fr lo mc ms) {i : Int32} {j : Nat} (ha : AR wf q k0 a n (dA 2)) (hin : vp_in i n) (hj : i.toNatClampNeg = j) (hd : decode cc pc = .ok (.baload, 1)) (k : TM G res M (wf h) ce sl (pc + 1) lv (.int (h k0 j) :: st)) : TM G res M (wf h) ce sl pc lv (.int i :: .ref a :: st) := by
  obtain ⟨p, e, R, s, m, args, below, meth, c, Q, A, ⟨hx, hb, hml, hown, hts⟩, hK, hN, hA, hR, hG⟩ := X
  intro hm
  rw [hG]
  intro H locs ls hP hD hS hl
  subst hj
  exact va_bald hx hb hK hP q 2 (ha h).1 rfl hin hd ((hG ..).mp (k hm) H locs ls hP hD hS hl)
theorem tm_iastoreL (X : IsG G l cc nL own D dA fr lo mc ms) {i v : Int32} {j : Nat} (ha : AR wf q k0 a n (dA 0)) (hin : vp_in i n) (hj : i.toNatClampNeg = j) (hd : decode cc pc = .ok (.iastore, 1)) (k : ∀ h' : Hp, TM G res (E h') (wf h') ce sl (pc + 1) lv st) : TM G res (nm (u2 h k0 j (v)) E) (wf h) ce sl pc lv (.int v :: .int i :: .ref a :: st) := by
  obtain ⟨p, e, R, s, m, args, below, meth, c, Q, A, ⟨hx, hb, hml, hown, hts⟩, hK, hN, hA, hR, hG⟩ := X
  intro hm
  rw [hG]
  intro H locs ls hP hD hS hl
  subst hj
  exact va_iast hx hb hK hP hD hS q 0 (ha h).1 rfl hin hd (fun H9 locs9 hP9 hD9 hS9 => (hG ..).mp (k _ hm) H9 locs9 ls ((ha h).2 _ _ ▸ hP9) ((ha h).2 _ _ ▸ hD9) hS9 hl)
theorem tm_bastoreZL (X : IsG G l cc nL own D dA fr lo mc ms) {i v : Int32} {j : Nat} (ha : AR wf q k0 a n (dA 1)) (hin : vp_in i n) (hj : i.toNatClampNeg = j) (hd : decode cc pc = .ok (.bastore, 1)) (k : ∀ h' : Hp, TM G res (E h') (wf h') ce sl (pc + 1) lv st) : TM G res (nm (u2 h k0 j (vp_nar .boolean v)) E) (wf h) ce sl pc lv (.int v :: .int i :: .ref a :: st) := by
  obtain ⟨p, e, R, s, m, args, below, meth, c, Q, A, ⟨hx, hb, hml, hown, hts⟩, hK, hN, hA, hR, hG⟩ := X
  intro hm
  rw [hG]
  intro H locs ls hP hD hS hl
  subst hj
  exact va_zast hx hb hK hP hD hS q 1 (ha h).1 rfl hin hd (fun H9 locs9 hP9 hD9 hS9 => (hG ..).mp (k _ hm) H9 locs9 ls ((ha h).2 _ _ ▸ hP9) ((ha h).2 _ _ ▸ hD9) hS9 hl)
theorem tm_bastoreBL (X : IsG G l cc nL own D dA fr lo mc ms) {i v : Int32} {j : Nat} (ha : AR wf q k0 a n (dA 2)) (hin : vp_in i n) (hj : i.toNatClampNeg = j) (hd : decode cc pc = .ok (.bastore, 1)) (k : ∀ h' : Hp, TM G res (E h') (wf h') ce sl (pc + 1) lv st) : TM G res (nm (u2 h k0 j (vp_nar .byte v)) E) (wf h) ce sl pc lv (.int v :: .int i :: .ref a :: st) := by
  obtain ⟨p, e, R, s, m, args, below, meth, c, Q, A, ⟨hx, hb, hml, hown, hts⟩, hK, hN, hA, hR, hG⟩ := X
  intro hm
  rw [hG]
  intro H locs ls hP hD hS hl
  subst hj
  exact va_bast hx hb hK hP hD hS q 2 (ha h).1 rfl hin hd (fun H9 locs9 hP9 hD9 hS9 => (hG ..).mp (k _ hm) H9 locs9 ls ((ha h).2 _ _ ▸ hP9) ((ha h).2 _ _ ▸ hD9) hS9 hl)
theorem tm_aaloadL (X : IsG G l cc nL own D dA fr lo mc ms) {i : Int32} {j : Nat} {g : Nat → Nat} (ha : AA w q a n (dA 3) g) (hin : vp_in i n) (hj : i.toNatClampNeg = j) (hd : decode cc pc = .ok (.aaload, 1)) (k : TM G res M w ce sl (pc + 1) lv (.ref (g j) :: st)) : TM G res M w ce sl pc lv (.int i :: .ref a :: st) := by
  obtain ⟨p, e, R, s, m, args, below, meth, c, Q, A, ⟨hx, hb, hml, hown, hts⟩, hK, hN, hA, hR, hG⟩ := X
  intro hm
  rw [hG]
  intro H locs ls hP hD hS hl
  subst hj
  have hlt : i.toNatClampNeg < n := Nat.not_le.mp fun q => hin (Or.inr q)
  exact W.aald (v := .ref (g i.toNatClampNeg)) (ty := .array .int) hx hb (hP q _ ha) ((hK.2 3 _ rfl).1 n (fun j => va_rf (some (g j)))) rfl (fun q => by cases q) (by show ¬ (i < 0 ∨ (arrV _ _ _).slots.size ≤ _); rw [arrV_size]; exact hin) (by show (arrV _ _ _).slots[_]? = _; rw [arrV_read _ _ hlt]; rfl) rfl rfl hd ((hG ..).mp (k hm) H locs ls hP hD hS hl)
/-- an outer array's row: the index is in range, the row's own cell by it -/
theorem tm_aaloadX (X : IsG G l cc nL own D dA fr lo mc ms) {i : Int32} {g : Nat → Nat} (ha : AA w q a n (dA 3) g) (hd : decode cc pc = .ok (.aaload, 1)) (k : i.toNatClampNeg < n → TM G res M w ce sl (pc + 1) lv (.ref (g i.toNatClampNeg) :: st)) : TM G res (ck i n M) w ce sl pc lv (.int i :: .ref a :: st) := by
  by_cases hlt : i.toNatClampNeg < n
  · exact tm_aaload X ha hd (k hlt)
  · intro hm
    unfold ck at hm
    rw [if_pos (Or.inr (Nat.not_lt.mp hlt))] at hm
    cases hm
/-- two rows one behind the other -/
def AR2 (w : Hp → va_W) (q k0 : Nat) (ad : Nat → Nat) (n : Nat) (cA : ClassId) : Prop := ∀ j, j < 2 → AR w (q + j) (k0 + j) (ad (k0 + j)) n cA
theorem AR2.of {w : Hp → va_W} {q k0 : Nat} {ad : Nat → Nat} {n : Nat} {cA : ClassId} (h0 : AR w q k0 (ad k0) n cA) (h1 : AR w (q + 1) (k0 + 1) (ad (k0 + 1)) n cA) : AR2 w q k0 ad n cA := by
  intro j hj
  match j, hj with
  | 0, _ => exact h0
  | 1, _ => exact h1
variable {y : MethodName} {bytes : ByteArray} {maxL : Nat} {ret : Option FieldType} {fr1 lo1 : Nat} {As rest : List Value} {index : Nat} {wc' : va_W}
theorem tm_callVi {r : Int32}  {n q0 ci N : Nat} {T0 : u_T} {fs : List Value} (X : IsG G l cc nL own D dA fr lo mc ms) (hC : CT l y bytes maxL ret D dA fr1 lo1 0 0 w (.ref b :: As) (some (.int r)) wc') (hT : GoodIn lw_all (wsV own index y.cls y (ws_ y bytes maxL ret))) (hcy : Callee y n) (hn : As.length = n) (hq : w[q0]? = some (b, .inr (ci, fs))) (hcl : vwCl[ci]? = some (y.cls, T0, N)) (hroom : fr1 + 1 ≤ fr ∧ 8 + (maxL + 11) + lo1 ≤ lo) (hcat : (rest.map fun v => v.category).sum ≤ 8) (hd : decode cc pc = .ok (.invokevirtual index, 3)) (hf : ce ≤ mc ∧ sl ≤ ms) {st0 : List Value} (hst : st0 = As.reverse ++ .ref b :: rest) (k : TM G res M wc' ce sl (pc + 3) lv (.int r :: rest)) : TM G res M w ce sl pc lv st0 := tm_callV X hC hT hcy hn hq hcl hroom hcat hd hf hst k
theorem tm_callVv   {n q0 ci N : Nat} {T0 : u_T} {fs : List Value} (X : IsG G l cc nL own D dA fr lo mc ms) (hC : CT l y bytes maxL ret D dA fr1 lo1 0 0 w (.ref b :: As) none wc') (hT : GoodIn lw_all (wsV own index y.cls y (ws_ y bytes maxL ret))) (hcy : Callee y n) (hn : As.length = n) (hq : w[q0]? = some (b, .inr (ci, fs))) (hcl : vwCl[ci]? = some (y.cls, T0, N)) (hroom : fr1 + 1 ≤ fr ∧ 8 + (maxL + 11) + lo1 ≤ lo) (hcat : (rest.map fun v => v.category).sum ≤ 8) (hd : decode cc pc = .ok (.invokevirtual index, 3)) (hf : ce ≤ mc ∧ sl ≤ ms) {st0 : List Value} (hst : st0 = As.reverse ++ .ref b :: rest) (k : TM G res M wc' ce sl (pc + 3) lv rest) : TM G res M w ce sl pc lv st0 := tm_callV X hC hT hcy hn hq hcl hroom hcat hd hf hst k
theorem tm_callVr {r : Nat}  {n q0 ci N : Nat} {T0 : u_T} {fs : List Value} (X : IsG G l cc nL own D dA fr lo mc ms) (hC : CT l y bytes maxL ret D dA fr1 lo1 0 0 w (.ref b :: As) (some (.ref r)) wc') (hT : GoodIn lw_all (wsV own index y.cls y (ws_ y bytes maxL ret))) (hcy : Callee y n) (hn : As.length = n) (hq : w[q0]? = some (b, .inr (ci, fs))) (hcl : vwCl[ci]? = some (y.cls, T0, N)) (hroom : fr1 + 1 ≤ fr ∧ 8 + (maxL + 11) + lo1 ≤ lo) (hcat : (rest.map fun v => v.category).sum ≤ 8) (hd : decode cc pc = .ok (.invokevirtual index, 3)) (hf : ce ≤ mc ∧ sl ≤ ms) {st0 : List Value} (hst : st0 = As.reverse ++ .ref b :: rest) (k : TM G res M wc' ce sl (pc + 3) lv (.ref r :: rest)) : TM G res M w ce sl pc lv st0 := tm_callV X hC hT hcy hn hq hcl hroom hcat hd hf hst k
theorem tm_callVNi {r : Int32} {host : String} {n q0 ci N : Nat} {T0 : u_T} {fs : List Value} (X : IsG G l cc nL own D dA fr lo mc ms) (hC : CT l y bytes maxL ret D dA fr1 lo1 0 0 w (.ref b :: As) (some (.int r)) wc') (hlk : Cond.methodLinkNest own index y host ∈ lw_tbl) (hins : Cond.instanceMethod y ∈ lw_all) (hsel : Cond.selects y.cls y y ∈ lw_all) (hini : Cond.initialized y.cls ∈ lw_all) (hcd : Cond.code y bytes maxL ret ∈ lw_all) (hcy : Callee y n) (hn : As.length = n) (hq : w[q0]? = some (b, .inr (ci, fs))) (hcl : vwCl[ci]? = some (y.cls, T0, N)) (hroom : fr1 + 1 ≤ fr ∧ 8 + (maxL + 11) + lo1 ≤ lo) (hcat : (rest.map fun v => v.category).sum ≤ 8) (hd : decode cc pc = .ok (.invokevirtual index, 3)) (hf : ce ≤ mc ∧ sl ≤ ms) {st0 : List Value} (hst : st0 = As.reverse ++ .ref b :: rest) (k : TM G res M wc' ce sl (pc + 3) lv (.int r :: rest)) : TM G res M w ce sl pc lv st0 := tm_callVN X hC hlk hins hsel hini hcd hcy hn hq hcl hroom hcat hd hf hst k
theorem tm_callVNv  {host : String} {n q0 ci N : Nat} {T0 : u_T} {fs : List Value} (X : IsG G l cc nL own D dA fr lo mc ms) (hC : CT l y bytes maxL ret D dA fr1 lo1 0 0 w (.ref b :: As) none wc') (hlk : Cond.methodLinkNest own index y host ∈ lw_tbl) (hins : Cond.instanceMethod y ∈ lw_all) (hsel : Cond.selects y.cls y y ∈ lw_all) (hini : Cond.initialized y.cls ∈ lw_all) (hcd : Cond.code y bytes maxL ret ∈ lw_all) (hcy : Callee y n) (hn : As.length = n) (hq : w[q0]? = some (b, .inr (ci, fs))) (hcl : vwCl[ci]? = some (y.cls, T0, N)) (hroom : fr1 + 1 ≤ fr ∧ 8 + (maxL + 11) + lo1 ≤ lo) (hcat : (rest.map fun v => v.category).sum ≤ 8) (hd : decode cc pc = .ok (.invokevirtual index, 3)) (hf : ce ≤ mc ∧ sl ≤ ms) {st0 : List Value} (hst : st0 = As.reverse ++ .ref b :: rest) (k : TM G res M wc' ce sl (pc + 3) lv rest) : TM G res M w ce sl pc lv st0 := tm_callVN X hC hlk hins hsel hini hcd hcy hn hq hcl hroom hcat hd hf hst k
theorem tm_callVNr {r : Nat} {host : String} {n q0 ci N : Nat} {T0 : u_T} {fs : List Value} (X : IsG G l cc nL own D dA fr lo mc ms) (hC : CT l y bytes maxL ret D dA fr1 lo1 0 0 w (.ref b :: As) (some (.ref r)) wc') (hlk : Cond.methodLinkNest own index y host ∈ lw_tbl) (hins : Cond.instanceMethod y ∈ lw_all) (hsel : Cond.selects y.cls y y ∈ lw_all) (hini : Cond.initialized y.cls ∈ lw_all) (hcd : Cond.code y bytes maxL ret ∈ lw_all) (hcy : Callee y n) (hn : As.length = n) (hq : w[q0]? = some (b, .inr (ci, fs))) (hcl : vwCl[ci]? = some (y.cls, T0, N)) (hroom : fr1 + 1 ≤ fr ∧ 8 + (maxL + 11) + lo1 ≤ lo) (hcat : (rest.map fun v => v.category).sum ≤ 8) (hd : decode cc pc = .ok (.invokevirtual index, 3)) (hf : ce ≤ mc ∧ sl ≤ ms) {st0 : List Value} (hst : st0 = As.reverse ++ .ref b :: rest) (k : TM G res M wc' ce sl (pc + 3) lv (.ref r :: rest)) : TM G res M w ce sl pc lv st0 := tm_callVN X hC hlk hins hsel hini hcd hcy hn hq hcl hroom hcat hd hf hst k
theorem tm_callSi {r : Int32}  {n : Nat} (X : IsG G l cc nL own D dA fr lo mc ms) (hC : CT l y bytes maxL ret D dA fr1 lo1 0 0 [] As (some (.int r)) []) (hT : GoodIn lw_all (va_wsS own index y (ws_ y bytes maxL ret))) (hcy : Callee y n) (hn : As.length = n) (hroom : fr1 + 1 ≤ fr ∧ 8 + (maxL + 11) + lo1 ≤ lo) (hcat : (rest.map fun v => v.category).sum ≤ 8) (hd : decode cc pc = .ok (.invokestatic index, 3)) (hf : ce ≤ mc ∧ sl ≤ ms) {st0 : List Value} (hst : st0 = As.reverse ++ rest) (k : TM G res M w ce sl (pc + 3) lv (.int r :: rest)) : TM G res M w ce sl pc lv st0 := tm_callS X hC hT hcy hn hroom hcat hd hf hst k
theorem tm_callSNi {r : Int32} {host : String} {n : Nat} (X : IsG G l cc nL own D dA fr lo mc ms) (hC : CT l y bytes maxL ret D dA fr1 lo1 0 0 [] As (some (.int r)) []) (hlk : Cond.methodLinkNest own index y host ∈ lw_tbl) (hsta : Cond.static y ∈ lw_all) (hini : Cond.initialized y.cls ∈ lw_all) (hcd : Cond.code y bytes maxL ret ∈ lw_all) (hcy : Callee y n) (hn : As.length = n) (hroom : fr1 + 1 ≤ fr ∧ 8 + (maxL + 11) + lo1 ≤ lo) (hcat : (rest.map fun v => v.category).sum ≤ 8) (hd : decode cc pc = .ok (.invokestatic index, 3)) (hf : ce ≤ mc ∧ sl ≤ ms) {st0 : List Value} (hst : st0 = As.reverse ++ rest) (k : TM G res M w ce sl (pc + 3) lv (.int r :: rest)) : TM G res M w ce sl pc lv st0 := tm_callSN X hC hlk hsta hini hcd hcy hn hroom hcat hd hf hst k
end ROWS3
