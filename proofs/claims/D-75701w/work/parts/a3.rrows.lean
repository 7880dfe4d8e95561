/-! Reader: rows over its world with a pool behind it (printed by genreader3.py) -/
set_option maxRecDepth 100000
theorem tm_getVN {G : Gty} {l : Launch} {cc : ByteArray} {nL : Nat} {own : String} {D : va_G} {dA : Nat → ClassId} {fr lo mc ms : Nat} {ρ : Type} {res : ρ} {M : Option ρ} {w : va_W} {ce sl pc : Nat} {lv : List (Nat × Value)} {st : List Value} (X : IsG G l cc nL own D dA fr lo mc ms) {C : String} {T0 : u_T} {N index ci f a : Nat} {ref host : String} {fs : List Value} {v : Value} (q : Nat) (he : w[q]? = some (a, .inr (ci, fs))) (hin : ∀ w ∈ u_ws C T0 N, w ∈ lw_all) (hc : vwCl[ci]? = some (C, T0, N)) (hk : f < N) (hv : fs[f]? = some v) (hlk : Cond.fieldLinkNest own index ref (T0 f).2.1 (T0 f).2.2.1 host ∈ lw_tbl) (hsm : ref = (T0 f).1) (hd : decode cc pc = .ok (.getfield index, 3)) (k : TM G res M w ce sl (pc + 3) lv (v :: st)) : TM G res M w ce sl pc lv (.ref a :: st) := by
  obtain ⟨p, e, R, s, m, args, below, meth, c, Q, A, ⟨hx, hb, hml, hown, hts⟩, hK, hN, hA, hR, hG⟩ := X
  intro hm
  rw [hG]
  intro H locs ls hP hD hS hl
  exact va_getN hx hb hts hin hown hK hP q he hc f hk (va_Nw.use rfl (hN.1 _ hlk rfl)) (fun _ h9 => by rw [hsm]; exact h9) hv hd ((hG ..).mp (k hm) H locs ls hP hD hS hl)
section RROWS
variable {G : Gty} {l : Launch} {cc : ByteArray} {nL : Nat} {own : String} {D : va_G} {dA : Nat → ClassId} {fr lo mc ms : Nat} {ρ : Type} {res : ρ} {M : Option ρ} {w w' : va_W} {ce sl pc : Nat} {lv : List (Nat × Value)} {st rest : List Value} {ad ac : Nat → Nat} {tt : (Nat → Option Nat) × (Nat → Option Nat) × va_W} {sc : (Nat → Option Nat) × (Nat → Option Nat)} {P : va_W} {h h' : Hp} {r : Int32}
def Dst (w : va_W) : Prop := w.Pairwise (fun p q => p.1 ≠ q.1)
theorem Dst_i {A : Nat → Prop} (hD : va_D A w) : Dst w := by
  unfold Dst
  rw [List.pairwise_iff_getElem]
  intro i j hi hj hij e
  have := hD.1 i j _ _ (List.getElem?_eq_getElem hi) (List.getElem?_eq_getElem hj) e
  omega
theorem Dst_d (hd : Dst w) {i j : Nat} {p q : Nat × va_E} (hi : w[i]? = some p) (hj : w[j]? = some q) (e : p.1 = q.1) : i = j := by
  unfold Dst at hd
  rw [List.pairwise_iff_getElem] at hd
  obtain ⟨i1, i2⟩ := List.getElem?_eq_some_iff.mp hi
  obtain ⟨j1, j2⟩ := List.getElem?_eq_some_iff.mp hj
  rcases Nat.lt_trichotomy i j with c | c | c
  · exact absurd (by rw [i2, j2]; exact e) (hd i j i1 j1 c)
  · exact c
  · exact absurd (by rw [i2, j2]; exact e.symm) (hd j i j1 i1 c)
theorem Dst_p (hp : w.Perm w') (hd : Dst w) : Dst w' := (hp.pairwise_iff (fun h e => h e.symm)).mp hd
theorem Dst_s (hs : w'.Sublist w) (hd : Dst w) : Dst w' := List.Pairwise.sublist hs hd
theorem tm_dst (X : IsG G l cc nL own D dA fr lo mc ms) (k : Dst w → TM G res M w ce sl pc lv st) : TM G res M w ce sl pc lv st := by
  have X0 := X
  obtain ⟨p, e, R, s, m, args, below, meth, c, Q, A, ⟨hx, hb, hml, hown, hts⟩, hK, hN, hA, hR, hG⟩ := X
  intro hm
  rw [hG]
  intro H locs ls hP hD hS hl
  exact (hG ..).mp (k (Dst_i hD) hm) H locs ls hP hD hS hl
theorem tm_perm (X : IsG G l cc nL own D dA fr lo mc ms) (hp : w.Perm w') (k : TM G res M w' ce sl pc lv st) : TM G res M w ce sl pc lv st := by
  obtain ⟨p, e, R, s, m, args, below, meth, c, Q, A, ⟨hx, hb, hml, hown, hts⟩, hK, hN, hA, hR, hG⟩ := X
  intro hm
  rw [hG]
  intro H locs ls hP hD hS hl
  have at' : ∀ (k : Nat) (q : Nat × va_E), w'[k]? = some q → ∃ i : Nat, w[i]? = some q := fun k q hk => List.getElem?_of_mem (hp.mem_iff.mpr (List.mem_of_getElem? hk))
  refine (hG ..).mp (k hm) H locs ls (fun k q hk => ?_) ⟨fun i j p q hi hj e => Dst_d (Dst_p hp (Dst_i hD)) hi hj e, fun k q hk => ?_⟩ hS hl
  · obtain ⟨i, hi⟩ := at' k q hk
    exact hP i q hi
  · obtain ⟨i, hi⟩ := at' k q hk
    exact hD.2 i q hi
theorem tm_eqw (X : IsG G l cc nL own D dA fr lo mc ms) (e : w = w') (k : TM G res M w' ce sl pc lv st) : TM G res M w ce sl pc lv st := e ▸ k
theorem tm_anull (X : IsG G l cc nL own D dA fr lo mc ms) (hd : decode cc pc = .ok (.aconst_null, 1)) (k : TM G res M w ce sl (pc + 1) lv (va_rf none :: st)) : TM G res M w ce sl pc lv st := by
  obtain ⟨p, e, R, s, m, args, below, meth, c, Q, A, ⟨hx, hb, hml, hown, hts⟩, hK, hN, hA, hR, hG⟩ := X
  intro hm
  rw [hG]
  intro H locs ls hP hD hS hl
  exact lv_null hx hb hd ((hG ..).mp (k hm) H locs ls hP hD hS hl)
theorem cat_q (x : Option Nat) : (va_rf x).category = 1 := by cases x <;> rfl
theorem tm_if_neT (X : IsG G l cc nL own D dA fr lo mc ms) {x : Int32} {off : Int} (tgt : Nat) (hx0 : ¬ x = 0) (hd : decode cc pc = .ok (.ifCond .ne off, 3)) (ht : (pc : Int) + off = (tgt : Int)) (k : TM G res M w ce sl tgt lv st) : TM G res M w ce sl pc lv (.int x :: st) := by
  have := tm_if_ne (M1 := M) (M2 := none) X (x := x) tgt hd ht k tm_none
  rwa [if_neg hx0] at this
theorem tm_if_neF (X : IsG G l cc nL own D dA fr lo mc ms) {x : Int32} {off : Int} (tgt : Nat) (hx0 : x = 0) (hd : decode cc pc = .ok (.ifCond .ne off, 3)) (ht : (pc : Int) + off = (tgt : Int)) (k : TM G res M w ce sl (pc + 3) lv st) : TM G res M w ce sl pc lv (.int x :: st) := by
  have := tm_if_ne (M1 := none) (M2 := M) X (x := x) tgt hd ht tm_none k
  rwa [if_pos hx0] at this
theorem tm_if_geT (X : IsG G l cc nL own D dA fr lo mc ms) {x : Int32} {off : Int} (tgt : Nat) (hx0 : 0 ≤ x) (hd : decode cc pc = .ok (.ifCond .ge off, 3)) (ht : (pc : Int) + off = (tgt : Int)) (k : TM G res M w ce sl tgt lv st) : TM G res M w ce sl pc lv (.int x :: st) := by
  have := tm_if_ge (M1 := M) (M2 := none) X (x := x) tgt hd ht k tm_none
  rwa [if_pos hx0] at this
theorem tm_if_geF (X : IsG G l cc nL own D dA fr lo mc ms) {x : Int32} {off : Int} (tgt : Nat) (hx0 : ¬ 0 ≤ x) (hd : decode cc pc = .ok (.ifCond .ge off, 3)) (ht : (pc : Int) + off = (tgt : Int)) (k : TM G res M w ce sl (pc + 3) lv st) : TM G res M w ce sl pc lv (.int x :: st) := by
  have := tm_if_ge (M1 := none) (M2 := M) X (x := x) tgt hd ht tm_none k
  rwa [if_neg hx0] at this
theorem tm_if_ltT (X : IsG G l cc nL own D dA fr lo mc ms) {x : Int32} {off : Int} (tgt : Nat) (hx0 : x < 0) (hd : decode cc pc = .ok (.ifCond .lt off, 3)) (ht : (pc : Int) + off = (tgt : Int)) (k : TM G res M w ce sl tgt lv st) : TM G res M w ce sl pc lv (.int x :: st) := by
  have := tm_if_lt (M1 := M) (M2 := none) X (x := x) tgt hd ht k tm_none
  rwa [if_pos hx0] at this
theorem tm_if_ltF (X : IsG G l cc nL own D dA fr lo mc ms) {x : Int32} {off : Int} (tgt : Nat) (hx0 : ¬ x < 0) (hd : decode cc pc = .ok (.ifCond .lt off, 3)) (ht : (pc : Int) + off = (tgt : Int)) (k : TM G res M w ce sl (pc + 3) lv st) : TM G res M w ce sl pc lv (.int x :: st) := by
  have := tm_if_lt (M1 := none) (M2 := M) X (x := x) tgt hd ht tm_none k
  rwa [if_neg hx0] at this
theorem tm_ic_neT (X : IsG G l cc nL own D dA fr lo mc ms) {x y : Int32} {off : Int} (tgt : Nat) (hxy : ¬ x = y) (hd : decode cc pc = .ok (.if_icmp .ne off, 3)) (ht : (pc : Int) + off = (tgt : Int)) (k : TM G res M w ce sl tgt lv st) : TM G res M w ce sl pc lv (.int y :: .int x :: st) := by
  have := tm_ic_ne (M1 := M) (M2 := none) X (x := x) (y := y) tgt hd ht k tm_none
  rwa [if_neg hxy] at this
theorem tm_ic_neF (X : IsG G l cc nL own D dA fr lo mc ms) {x y : Int32} {off : Int} (tgt : Nat) (hxy : x = y) (hd : decode cc pc = .ok (.if_icmp .ne off, 3)) (ht : (pc : Int) + off = (tgt : Int)) (k : TM G res M w ce sl (pc + 3) lv st) : TM G res M w ce sl pc lv (.int y :: .int x :: st) := by
  have := tm_ic_ne (M1 := none) (M2 := M) X (x := x) (y := y) tgt hd ht tm_none k
  rwa [if_pos hxy] at this
theorem tm_ic_eqF (X : IsG G l cc nL own D dA fr lo mc ms) {x y : Int32} {off : Int} (tgt : Nat) (hxy : ¬ x = y) (hd : decode cc pc = .ok (.if_icmp .eq off, 3)) (ht : (pc : Int) + off = (tgt : Int)) (k : TM G res M w ce sl (pc + 3) lv st) : TM G res M w ce sl pc lv (.int y :: .int x :: st) := by
  have := tm_ic_eq (M1 := none) (M2 := M) X (x := x) (y := y) tgt hd ht tm_none k
  rwa [if_neg hxy] at this
theorem tm_ic_geT (X : IsG G l cc nL own D dA fr lo mc ms) {x y : Int32} {off : Int} (tgt : Nat) (hxy : y ≤ x) (hd : decode cc pc = .ok (.if_icmp .ge off, 3)) (ht : (pc : Int) + off = (tgt : Int)) (k : TM G res M w ce sl tgt lv st) : TM G res M w ce sl pc lv (.int y :: .int x :: st) := by
  have := tm_ic_ge (M1 := M) (M2 := none) X (x := x) (y := y) tgt hd ht k tm_none
  rwa [if_pos hxy] at this
theorem tm_ic_geF (X : IsG G l cc nL own D dA fr lo mc ms) {x y : Int32} {off : Int} (tgt : Nat) (hxy : ¬ y ≤ x) (hd : decode cc pc = .ok (.if_icmp .ge off, 3)) (ht : (pc : Int) + off = (tgt : Int)) (k : TM G res M w ce sl (pc + 3) lv st) : TM G res M w ce sl pc lv (.int y :: .int x :: st) := by
  have := tm_ic_ge (M1 := none) (M2 := M) X (x := x) (y := y) tgt hd ht tm_none k
  rwa [if_neg hxy] at this
theorem tm_callVFg {y : MethodName} {bytes : ByteArray} {maxL : Nat} {ret : Option FieldType} {fr1 lo1 mc1 ms1 : Nat} {As : List Value} {rv : Option Value} {b index : Nat} {wc wc' wr : va_W} {n q0 ci N : Nat} {T0 : u_T} {fs : List Value} (X : IsG G l cc nL own D dA fr lo mc ms) (hC : CT l y bytes maxL ret D dA fr1 lo1 mc1 ms1 wc (.ref b :: As) rv wc') (hT : GoodIn lw_all (wsV own index y.cls y (ws_ y bytes maxL ret))) (hcy : Callee y n) (hn : As.length = n) (hq : wc[q0]? = some (b, .inr (ci, fs))) (hcl : vwCl[ci]? = some (y.cls, T0, N)) (hroom : fr1 + 1 ≤ fr ∧ 8 + (maxL + 11) + lo1 ≤ lo) (hcat : (rest.map fun v => v.category).sum ≤ 8) (hd : decode cc pc = .ok (.invokevirtual index, 3)) (hf : ce + mc1 ≤ mc ∧ sl + ms1 ≤ ms) {st0 : List Value} (hst : st0 = As.reverse ++ .ref b :: rest) (k : TM G res M (wc' ++ wr) (ce + mc1) (sl + ms1) (pc + 3) lv (rv.toList ++ rest)) : TM G res M (wc ++ wr) ce sl pc lv st0 := by
  obtain ⟨p, e, R, s, m, args, below, meth, c, Q, A, ⟨hx, hb, hml, hown, hts⟩, hK, hN, hA, ⟨h1, h2, h3, h4⟩, hG⟩ := X
  intro hm
  rw [hG]
  intro H locs ls hP hD hS hl
  have hF := va_A.of (wc := wc) hD hS.1 hA (fun x h => List.mem_append_left _ h)
  refine callBehind (va_runV (As := As) (rest := rest) ⟨hx, hb, hml, hown, hts⟩ (hC H.size) (cwV n hts hT rfl rfl rfl ⟨rfl, hcy⟩ ⟨by rw [h1]; exact hroom.1, by rw [h2]; exact hroom.2⟩) ⟨PCx.blind, va_recv hK hP.left hcl hq, PCx.at hK hN hS hF hP.left hD.left⟩ rfl hn hl.1 hst (lv_room hcat) hd ⟨by rw [h3]; exact hf.1, by rw [h4]; exact hf.2⟩) hS hF (fun H1 locs1 hP1 hD1 hz hk hS1 => ?_)
  obtain ⟨hP2, hD2⟩ := frameFirst hP hD hk hF hP1 hD1
  exact (hG ..).mp (k hm) H1 locs1 ls hP2 hD2 hS1 hl
def wXP (ad ac : Nat → Nat) (dA : Nat → ClassId) (tt : (Nat → Option Nat) × (Nat → Option Nat) × va_W) (sc : (Nat → Option Nat) × (Nat → Option Nat)) (P : va_W) (h : Hp) : va_W := wXR ad ac dA tt sc h ++ P
theorem tm_wP (X : IsG G l cc nL own D dA fr lo mc ms) {P' : va_W} (hp : P.Perm P') (k : TM G res M (wXP ad ac dA tt sc P' h) ce sl pc lv st) : TM G res M (wXP ad ac dA tt sc P h) ce sl pc lv st := tm_perm X (List.Perm.append_left _ hp) k
theorem tm_putIe (X : IsG G l cc nL own D dA fr lo mc ms) {wf : Hp → va_W} {q k0 a ci f : Nat} {C : String} {T0 : u_T} {N index : Nat} {ref : String} {v : Int32} (ha : FI wf q k0 a ci f) (hin : ∀ w ∈ u_ws C T0 N, w ∈ lw_all) (hc : vwCl[ci]? = some (C, T0, N)) (hk : f < N) (ty0 : Nat → FieldType) (hty : ∀ k, k < N → parseFieldDescriptor (T0 k).2.2.1 = some (ty0 k)) (hnm : ∀ a, a < N → ∀ b, b < N → a ≠ b → (T0 a).2.1 ≠ (T0 b).2.1) (hfin : (T0 f).2.2.2 = false) (hint : ty0 f = .int) (hlk : Cond.fieldLink own index ref (T0 f).2.1 (T0 f).2.2.1 ∈ lw_all) (hsm : ref = (T0 f).1) (hd : decode cc pc = .ok (.putfield index, 3)) (k : TM G res M (wf (u2 h k0 f v)) ce sl (pc + 3) lv st) : TM G res M (wf h) ce sl pc lv (.int v :: .ref a :: st) := by
  obtain ⟨fs, h1, h2, h3, h4⟩ := ha h
  exact tm_putV (ty := .int) X q h1 hin hc hk ty0 hty hnm hfin hint rfl rfl h3 hlk hsm hd (h4 v) k
theorem tm_rhere (X : IsG G l cc nL "HighSpots$Reader" D dA fr lo mc ms) (e : mX6_here h = some r) (hroom : 1 ≤ fr ∧ 20 ≤ lo) (hcat : (rest.map fun v => v.category).sum ≤ 8) (hd : decode cc pc = .ok (.invokevirtual 39, 3)) (hf : ce ≤ mc ∧ sl ≤ ms) (k : TM G res M (wXP ad ac dA tt sc P h) ce sl (pc + 3) lv (.int r :: rest)) : TM G res M (wXP ad ac dA tt sc P h) ce sl pc lv (.ref (ac 90) :: rest) :=
  tm_callVFg (As := []) (rest := rest) (wr := P) X (ctX6_here l D ad ac dA tt sc h r e) (lw_V q379 q381 qs3 q123 q382) cyX6_here rfl (Classical.choose_spec (obXR_90 ad ac dA tt sc h)) rfl ⟨by omega, by omega⟩ hcat hd ⟨by omega, by omega⟩ rfl k
theorem tm_risGood (X : IsG G l cc nL "HighSpots$Reader" D dA fr lo mc ms) (e : mX6_isGood h = some r) (hroom : 1 ≤ fr ∧ 20 ≤ lo) (hcat : (rest.map fun v => v.category).sum ≤ 8) (hd : decode cc pc = .ok (.invokevirtual 43, 3)) (hf : ce ≤ mc ∧ sl ≤ ms) (k : TM G res M (wXP ad ac dA tt sc P h) ce sl (pc + 3) lv (.int r :: rest)) : TM G res M (wXP ad ac dA tt sc P h) ce sl pc lv (.ref (ac 90) :: rest) :=
  tm_callVFg (As := []) (rest := rest) (wr := P) X (ctX6_isGood l D ad ac dA tt sc h r e) (lw_V q371 q373 qs1 q123 q374) cyX6_isGood rfl (Classical.choose_spec (obXR_90 ad ac dA tt sc h)) rfl ⟨by omega, by omega⟩ hcat hd ⟨by omega, by omega⟩ rfl k
theorem tm_rseesDigit (X : IsG G l cc nL "HighSpots$Reader" D dA fr lo mc ms) (e : mX6_seesDigit h = some r) (hroom : 2 ≤ fr ∧ 40 ≤ lo) (hcat : (rest.map fun v => v.category).sum ≤ 8) (hd : decode cc pc = .ok (.invokevirtual 47, 3)) (hf : ce ≤ mc ∧ sl ≤ ms) (k : TM G res M (wXP ad ac dA tt sc P h) ce sl (pc + 3) lv (.int r :: rest)) : TM G res M (wXP ad ac dA tt sc P h) ce sl pc lv (.ref (ac 90) :: rest) :=
  tm_callVFg (As := []) (rest := rest) (wr := P) X (ctX6_seesDigit l D ad ac dA tt sc h r e) (lw_V q496 q498 qs10 q123 q499) cyX6_seesDigit rfl (Classical.choose_spec (obXR_90 ad ac dA tt sc h)) rfl ⟨by omega, by omega⟩ hcat hd ⟨by omega, by omega⟩ rfl k
theorem tm_rnumber (X : IsG G l cc nL "HighSpots$Reader" D dA fr lo mc ms) (e : mX6_number h = some (r, h')) (hroom : 3 ≤ fr ∧ 62 ≤ lo) (hcat : (rest.map fun v => v.category).sum ≤ 8) (hd : decode cc pc = .ok (.invokevirtual 70, 3)) (hf : ce ≤ mc ∧ sl ≤ ms) (k : TM G res M (wXP ad ac dA tt sc P h') ce sl (pc + 3) lv (.int r :: rest)) : TM G res M (wXP ad ac dA tt sc P h) ce sl pc lv (.ref (ac 90) :: rest) :=
  tm_callVFg (As := []) (rest := rest) (wr := P) X (ctX6_number l D ad ac dA tt sc h r h' e) (lw_V q502 q504 qs11 q123 q505) cyX6_number rfl (Classical.choose_spec (obXR_90 ad ac dA tt sc h)) rfl ⟨by omega, by omega⟩ hcat hd ⟨by omega, by omega⟩ rfl k
theorem tm_rbad (X : IsG G l cc nL "HighSpots$Reader" D dA fr lo mc ms) {x1 : Int32} {x2 : Int32} (e : mX6_bad h x1 x2 = some h') (hroom : 1 ≤ fr ∧ 22 ≤ lo) (hcat : (rest.map fun v => v.category).sum ≤ 8) (hd : decode cc pc = .ok (.invokevirtual 50, 3)) (hf : ce ≤ mc ∧ sl ≤ ms) (k : TM G res M (wXP ad ac dA tt sc P h') ce sl (pc + 3) lv (rest)) : TM G res M (wXP ad ac dA tt sc P h) ce sl pc lv (.int x2 :: .int x1 :: .ref (ac 90) :: rest) :=
  tm_callVFg (As := [.int x1, .int x2]) (rest := rest) (wr := P) X (ctX6_bad l D ad ac dA tt sc h x1 x2 h' e) (lw_V q470 q472 qs4 q123 q473) cyX6_bad rfl (Classical.choose_spec (obXR_90 ad ac dA tt sc h)) rfl ⟨by omega, by omega⟩ hcat hd ⟨by omega, by omega⟩ rfl k
theorem tm_rmust (X : IsG G l cc nL "HighSpots$Reader" D dA fr lo mc ms) {x1 : Int32} (e : mX6_must h x1 = some h') (hroom : 2 ≤ fr ∧ 43 ≤ lo) (hcat : (rest.map fun v => v.category).sum ≤ 8) (hd : decode cc pc = .ok (.invokevirtual 64, 3)) (hf : ce ≤ mc ∧ sl ≤ ms) (k : TM G res M (wXP ad ac dA tt sc P h') ce sl (pc + 3) lv (rest)) : TM G res M (wXP ad ac dA tt sc P h) ce sl pc lv (.int x1 :: .ref (ac 90) :: rest) :=
  tm_callVFg (As := [.int x1]) (rest := rest) (wr := P) X (ctX6_must l D ad ac dA tt sc h x1 h' e) (lw_V q492 q494 qs9 q123 q495) cyX6_must rfl (Classical.choose_spec (obXR_90 ad ac dA tt sc h)) rfl ⟨by omega, by omega⟩ hcat hd ⟨by omega, by omega⟩ rfl k
theorem tm_ropens (X : IsG G l cc nL "HighSpots$Reader" D dA fr lo mc ms) (e : mX6_opens h = some h') (hroom : 2 ≤ fr ∧ 42 ≤ lo) (hcat : (rest.map fun v => v.category).sum ≤ 8) (hd : decode cc pc = .ok (.invokevirtual 57, 3)) (hf : ce ≤ mc ∧ sl ≤ ms) (k : TM G res M (wXP ad ac dA tt sc P h') ce sl (pc + 3) lv (rest)) : TM G res M (wXP ad ac dA tt sc P h) ce sl pc lv (.ref (ac 90) :: rest) :=
  tm_callVFg (As := []) (rest := rest) (wr := P) X (ctX6_opens l D ad ac dA tt sc h h' e) (lw_V q488 q490 qs8 q123 q491) cyX6_opens rfl (Classical.choose_spec (obXR_90 ad ac dA tt sc h)) rfl ⟨by omega, by omega⟩ hcat hd ⟨by omega, by omega⟩ rfl k
theorem tm_rat (X : IsG G l cc nL "HighSpots$Reader" D dA fr lo mc ms) (hd : decode cc pc = .ok (.getfield 26, 3)) (k : TM G res M (wXP ad ac dA tt sc P h) ce sl (pc + 3) lv (.int (h 90 2) :: st)) : TM G res M (wXP ad ac dA tt sc P h) ce sl pc lv (.ref (ac 90) :: st) :=
  tm_getI X (FI.left (v := fun _ => P) (fiXR_90_2 ad ac dA tt sc) (fun _ _ _ => rfl)) in_X6 rfl (Nat.le_of_ble_eq_true rfl) q347 rfl hd k
theorem tm_rputat (X : IsG G l cc nL "HighSpots$Reader" D dA fr lo mc ms) {v : Int32} (hd : decode cc pc = .ok (.putfield 26, 3)) (k : TM G res M (wXP ad ac dA tt sc P (u2 h 90 2 v)) ce sl (pc + 3) lv st) : TM G res M (wXP ad ac dA tt sc P h) ce sl pc lv (.int v :: .ref (ac 90) :: st) :=
  tm_putIe X (FI.left (v := fun _ => P) (fiXR_90_2 ad ac dA tt sc) (fun _ _ _ => rfl)) in_X6 rfl (Nat.le_of_ble_eq_true rfl) tyX6 tyX6_ok nmX6 rfl rfl q347 rfl hd k
theorem tm_ropen (X : IsG G l cc nL "HighSpots$Reader" D dA fr lo mc ms) (hd : decode cc pc = .ok (.getfield 54, 3)) (k : TM G res M (wXP ad ac dA tt sc P h) ce sl (pc + 3) lv (.int (h 90 3) :: st)) : TM G res M (wXP ad ac dA tt sc P h) ce sl pc lv (.ref (ac 90) :: st) :=
  tm_getI X (FI.left (v := fun _ => P) (fiXR_90_3 ad ac dA tt sc) (fun _ _ _ => rfl)) in_X6 rfl (Nat.le_of_ble_eq_true rfl) q348 rfl hd k
theorem tm_rputopen (X : IsG G l cc nL "HighSpots$Reader" D dA fr lo mc ms) {v : Int32} (hd : decode cc pc = .ok (.putfield 54, 3)) (k : TM G res M (wXP ad ac dA tt sc P (u2 h 90 3 v)) ce sl (pc + 3) lv st) : TM G res M (wXP ad ac dA tt sc P h) ce sl pc lv (.int v :: .ref (ac 90) :: st) :=
  tm_putIe X (FI.left (v := fun _ => P) (fiXR_90_3 ad ac dA tt sc) (fun _ _ _ => rfl)) in_X6 rfl (Nat.le_of_ble_eq_true rfl) tyX6 tyX6_ok nmX6 rfl rfl q348 rfl hd k
theorem tm_rn (X : IsG G l cc nL "HighSpots$Reader" D dA fr lo mc ms) (hd : decode cc pc = .ok (.getfield 22, 3)) (k : TM G res M (wXP ad ac dA tt sc P h) ce sl (pc + 3) lv (.int (h 90 0) :: st)) : TM G res M (wXP ad ac dA tt sc P h) ce sl pc lv (.ref (ac 90) :: st) :=
  tm_getI X (FI.left (v := fun _ => P) (fiXR_90_0 ad ac dA tt sc) (fun _ _ _ => rfl)) in_X6 rfl (Nat.le_of_ble_eq_true rfl) q344 rfl hd k
theorem tm_rfault (X : IsG G l cc nL "HighSpots$Reader" D dA fr lo mc ms) (hd : decode cc pc = .ok (.getfield 33, 3)) (k : TM G res M (wXP ad ac dA tt sc P h) ce sl (pc + 3) lv (.int (h 90 4) :: st)) : TM G res M (wXP ad ac dA tt sc P h) ce sl pc lv (.ref (ac 90) :: st) :=
  tm_getI X (FI.left (v := fun _ => P) (fiXR_90_4 ad ac dA tt sc) (fun _ _ _ => rfl)) in_X6 rfl (Nat.le_of_ble_eq_true rfl) q349 rfl hd k
theorem tm_rplace (X : IsG G l cc nL "HighSpots$Reader" D dA fr lo mc ms) (hd : decode cc pc = .ok (.getfield 36, 3)) (k : TM G res M (wXP ad ac dA tt sc P h) ce sl (pc + 3) lv (.int (h 90 5) :: st)) : TM G res M (wXP ad ac dA tt sc P h) ce sl pc lv (.ref (ac 90) :: st) :=
  tm_getI X (FI.left (v := fun _ => P) (fiXR_90_5 ad ac dA tt sc) (fun _ _ _ => rfl)) in_X6 rfl (Nat.le_of_ble_eq_true rfl) q350 rfl hd k
theorem tm_newRow (X : IsG G l cc nL "HighSpots$Reader" D dA fr lo mc ms) (hf : ce + 1 ≤ mc ∧ sl + 3 ≤ ms) (hd : decode cc pc = .ok (.new 86, 3)) (k : ∀ q : Nat, TM G res M (wXP ad ac dA tt sc (P ++ [(q, .inr (6, [.int 0, .null, .null]))]) h) (ce + 1) (sl + 3) (pc + 3) lv (.ref q :: st)) : TM G res M (wXP ad ac dA tt sc P h) ce sl pc lv st :=
  tm_new (ci := 6) X tyX8 in_X8 tyX8_ok q478 q479 q131 rfl [.int 0, .null, .null] df_X8 hf hd (fun q => tm_eqw X (List.append_assoc _ _ _) (k q))
theorem tm_initRow (X : IsG G l cc nL "HighSpots$Reader" D dA fr lo mc ms) {n0 : Int32} {b1 : Option Nat} {q : Nat} (hroom : 3 ≤ fr ∧ 80 ≤ lo) (hcat : (rest.map fun v => v.category).sum ≤ 8) (hd : decode cc pc = .ok (.invokespecial 91, 3)) (hf : ce ≤ mc ∧ sl ≤ ms) (k : TM G res M (wXP ad ac dA tt sc (P ++ [(q, .inr (6, [.int n0, va_rf b1, .null]))]) h) ce sl (pc + 3) lv rest) : TM G res M (wXP ad ac dA tt sc (P ++ [(q, .inr (6, [.int 0, .null, .null]))]) h) ce sl pc lv (va_rf b1 :: .int n0 :: .ref q :: rest) := by
  refine tm_eqw X (List.append_assoc _ _ _).symm ?_
  cases b1 with
  | none =>
    refine tm_callIE (As := [.int n0, .null]) (rest := rest) (wr := wXR ad ac dA tt sc h ++ P) X (ceX8_initN l D dA q n0) q528 q529 q131 q530 rfl cyX8_init rfl ⟨by omega, by omega⟩ hcat hd ⟨by omega, by omega⟩ rfl rfl ?_
    rintro _ _ ⟨rfl, rfl⟩
    exact tm_eqw X (List.append_assoc _ _ _) k
  | some b1 =>
    refine tm_callIE (As := [.int n0, .ref b1]) (rest := rest) (wr := wXR ad ac dA tt sc h ++ P) X (ceX8_init l D dA q n0 b1) q528 q529 q131 q530 rfl cyX8_init rfl ⟨by omega, by omega⟩ hcat hd ⟨by omega, by omega⟩ rfl rfl ?_
    rintro _ _ ⟨rfl, rfl⟩
    exact tm_eqw X (List.append_assoc _ _ _) k
theorem tm_newNum (X : IsG G l cc nL "HighSpots$Reader" D dA fr lo mc ms) (hf : ce + 1 ≤ mc ∧ sl + 1 ≤ ms) (hd : decode cc pc = .ok (.new 68, 3)) (k : ∀ q : Nat, TM G res M (wXP ad ac dA tt sc (P ++ [(q, .inr (7, [.int 0]))]) h) (ce + 1) (sl + 1) (pc + 3) lv (.ref q :: st)) : TM G res M (wXP ad ac dA tt sc P h) ce sl pc lv st :=
  tm_new (ci := 7) X tyX9 in_X9 tyX9_ok q500 q501 q132 rfl [.int 0] df_X9 hf hd (fun q => tm_eqw X (List.append_assoc _ _ _) (k q))
theorem tm_initNum (X : IsG G l cc nL "HighSpots$Reader" D dA fr lo mc ms) {n0 : Int32} {q : Nat} (hroom : 3 ≤ fr ∧ 80 ≤ lo) (hcat : (rest.map fun v => v.category).sum ≤ 8) (hd : decode cc pc = .ok (.invokespecial 73, 3)) (hf : ce ≤ mc ∧ sl ≤ ms) (k : TM G res M (wXP ad ac dA tt sc (P ++ [(q, .inr (7, [.int n0]))]) h) ce sl (pc + 3) lv rest) : TM G res M (wXP ad ac dA tt sc (P ++ [(q, .inr (7, [.int 0]))]) h) ce sl pc lv (.int n0 :: .ref q :: rest) := by
  refine tm_eqw X (List.append_assoc _ _ _).symm ?_
  refine tm_callIE (As := [.int n0]) (rest := rest) (wr := wXR ad ac dA tt sc h ++ P) X (ceX9_init l D dA q n0) q506 q507 q132 q508 rfl cyX9_init rfl ⟨by omega, by omega⟩ hcat hd ⟨by omega, by omega⟩ rfl rfl ?_
  rintro _ _ ⟨rfl, rfl⟩
  exact tm_eqw X (List.append_assoc _ _ _) k
theorem tm_newLet (X : IsG G l cc nL "HighSpots$Reader" D dA fr lo mc ms) (hf : ce + 1 ≤ mc ∧ sl + 1 ≤ ms) (hd : decode cc pc = .ok (.new 83, 3)) (k : ∀ q : Nat, TM G res M (wXP ad ac dA tt sc (P ++ [(q, .inr (8, [.int 0]))]) h) (ce + 1) (sl + 1) (pc + 3) lv (.ref q :: st)) : TM G res M (wXP ad ac dA tt sc P h) ce sl pc lv st :=
  tm_new (ci := 8) X tyX10 in_X10 tyX10_ok q518 q519 q133 rfl [.int 0] df_X10 hf hd (fun q => tm_eqw X (List.append_assoc _ _ _) (k q))
theorem tm_initLet (X : IsG G l cc nL "HighSpots$Reader" D dA fr lo mc ms) {n0 : Int32} {q : Nat} (hroom : 3 ≤ fr ∧ 80 ≤ lo) (hcat : (rest.map fun v => v.category).sum ≤ 8) (hd : decode cc pc = .ok (.invokespecial 85, 3)) (hf : ce ≤ mc ∧ sl ≤ ms) (k : TM G res M (wXP ad ac dA tt sc (P ++ [(q, .inr (8, [.int n0]))]) h) ce sl (pc + 3) lv rest) : TM G res M (wXP ad ac dA tt sc (P ++ [(q, .inr (8, [.int 0]))]) h) ce sl pc lv (.int n0 :: .ref q :: rest) := by
  refine tm_eqw X (List.append_assoc _ _ _).symm ?_
  refine tm_callIE (As := [.int n0]) (rest := rest) (wr := wXR ad ac dA tt sc h ++ P) X (ceX10_init l D dA q n0) q520 q521 q133 q522 rfl cyX10_init rfl ⟨by omega, by omega⟩ hcat hd ⟨by omega, by omega⟩ rfl rfl ?_
  rintro _ _ ⟨rfl, rfl⟩
  exact tm_eqw X (List.append_assoc _ _ _) k
theorem tm_newSome (X : IsG G l cc nL "HighSpots$Reader" D dA fr lo mc ms) (hf : ce + 1 ≤ mc ∧ sl + 3 ≤ ms) (hd : decode cc pc = .ok (.new 118, 3)) (k : ∀ q : Nat, TM G res M (wXP ad ac dA tt sc (P ++ [(q, .inr (9, [.null, .int 0, .null]))]) h) (ce + 1) (sl + 3) (pc + 3) lv (.ref q :: st)) : TM G res M (wXP ad ac dA tt sc P h) ce sl pc lv st :=
  tm_new (ci := 9) X tyX12 in_X12 tyX12_ok q547 q548 q135 rfl [.null, .int 0, .null] df_X12 hf hd (fun q => tm_eqw X (List.append_assoc _ _ _) (k q))
theorem tm_initSome (X : IsG G l cc nL "HighSpots$Reader" D dA fr lo mc ms) {b0 : Option Nat} {n1 : Int32} {q : Nat} (hroom : 3 ≤ fr ∧ 80 ≤ lo) (hcat : (rest.map fun v => v.category).sum ≤ 8) (hd : decode cc pc = .ok (.invokespecial 120, 3)) (hf : ce ≤ mc ∧ sl ≤ ms) (k : TM G res M (wXP ad ac dA tt sc (P ++ [(q, .inr (9, [va_rf b0, .int n1, .null]))]) h) ce sl (pc + 3) lv rest) : TM G res M (wXP ad ac dA tt sc (P ++ [(q, .inr (9, [.null, .int 0, .null]))]) h) ce sl pc lv (.int n1 :: va_rf b0 :: .ref q :: rest) := by
  refine tm_eqw X (List.append_assoc _ _ _).symm ?_
  cases b0 with
  | none =>
    refine tm_callIE (As := [.null, .int n1]) (rest := rest) (wr := wXR ad ac dA tt sc h ++ P) X (ceX12_initN l D dA q n1) q586 q587 q135 q588 rfl cyX12_init rfl ⟨by omega, by omega⟩ hcat hd ⟨by omega, by omega⟩ rfl rfl ?_
    rintro _ _ ⟨rfl, rfl⟩
    exact tm_eqw X (List.append_assoc _ _ _) k
  | some b0 =>
    refine tm_callIE (As := [.ref b0, .int n1]) (rest := rest) (wr := wXR ad ac dA tt sc h ++ P) X (ceX12_init l D dA q b0 n1) q586 q587 q135 q588 rfl cyX12_init rfl ⟨by omega, by omega⟩ hcat hd ⟨by omega, by omega⟩ rfl rfl ?_
    rintro _ _ ⟨rfl, rfl⟩
    exact tm_eqw X (List.append_assoc _ _ _) k
theorem tm_newNot (X : IsG G l cc nL "HighSpots$Reader" D dA fr lo mc ms) (hf : ce + 1 ≤ mc ∧ sl + 1 ≤ ms) (hd : decode cc pc = .ok (.new 105, 3)) (k : ∀ q : Nat, TM G res M (wXP ad ac dA tt sc (P ++ [(q, .inr (10, [.null]))]) h) (ce + 1) (sl + 1) (pc + 3) lv (.ref q :: st)) : TM G res M (wXP ad ac dA tt sc P h) ce sl pc lv st :=
  tm_new (ci := 10) X tyX13 in_X13 tyX13_ok q557 q558 q136 rfl [.null] df_X13 hf hd (fun q => tm_eqw X (List.append_assoc _ _ _) (k q))
theorem tm_initNot (X : IsG G l cc nL "HighSpots$Reader" D dA fr lo mc ms) {b0 : Option Nat} {q : Nat} (hroom : 3 ≤ fr ∧ 80 ≤ lo) (hcat : (rest.map fun v => v.category).sum ≤ 8) (hd : decode cc pc = .ok (.invokespecial 107, 3)) (hf : ce ≤ mc ∧ sl ≤ ms) (k : TM G res M (wXP ad ac dA tt sc (P ++ [(q, .inr (10, [va_rf b0]))]) h) ce sl (pc + 3) lv rest) : TM G res M (wXP ad ac dA tt sc (P ++ [(q, .inr (10, [.null]))]) h) ce sl pc lv (va_rf b0 :: .ref q :: rest) := by
  refine tm_eqw X (List.append_assoc _ _ _).symm ?_
  cases b0 with
  | none =>
    refine tm_callIE (As := [.null]) (rest := rest) (wr := wXR ad ac dA tt sc h ++ P) X (ceX13_initN l D dA q ) q559 q560 q136 q561 rfl cyX13_init rfl ⟨by omega, by omega⟩ hcat hd ⟨by omega, by omega⟩ rfl rfl ?_
    rintro _ _ ⟨rfl, rfl⟩
    exact tm_eqw X (List.append_assoc _ _ _) k
  | some b0 =>
    refine tm_callIE (As := [.ref b0]) (rest := rest) (wr := wXR ad ac dA tt sc h ++ P) X (ceX13_init l D dA q b0) q559 q560 q136 q561 rfl cyX13_init rfl ⟨by omega, by omega⟩ hcat hd ⟨by omega, by omega⟩ rfl rfl ?_
    rintro _ _ ⟨rfl, rfl⟩
    exact tm_eqw X (List.append_assoc _ _ _) k
theorem tm_newCmp (X : IsG G l cc nL "HighSpots$Reader" D dA fr lo mc ms) (hf : ce + 1 ≤ mc ∧ sl + 3 ≤ ms) (hd : decode cc pc = .ok (.new 113, 3)) (k : ∀ q : Nat, TM G res M (wXP ad ac dA tt sc (P ++ [(q, .inr (11, [.null, .null, .int 0]))]) h) (ce + 1) (sl + 3) (pc + 3) lv (.ref q :: st)) : TM G res M (wXP ad ac dA tt sc P h) ce sl pc lv st :=
  tm_new (ci := 11) X tyX14 in_X14 tyX14_ok q570 q571 q137 rfl [.null, .null, .int 0] df_X14 hf hd (fun q => tm_eqw X (List.append_assoc _ _ _) (k q))
theorem tm_initCmp (X : IsG G l cc nL "HighSpots$Reader" D dA fr lo mc ms) {b0 : Option Nat} {n1 : Int32} {b2 : Option Nat} {q : Nat} (hroom : 3 ≤ fr ∧ 80 ≤ lo) (hcat : (rest.map fun v => v.category).sum ≤ 8) (hd : decode cc pc = .ok (.invokespecial 115, 3)) (hf : ce ≤ mc ∧ sl ≤ ms) (k : TM G res M (wXP ad ac dA tt sc (P ++ [(q, .inr (11, [va_rf b0, va_rf b2, .int n1]))]) h) ce sl (pc + 3) lv rest) : TM G res M (wXP ad ac dA tt sc (P ++ [(q, .inr (11, [.null, .null, .int 0]))]) h) ce sl pc lv (va_rf b2 :: .int n1 :: va_rf b0 :: .ref q :: rest) := by
  refine tm_eqw X (List.append_assoc _ _ _).symm ?_
  cases b0 with
  | none =>
    cases b2 with
    | none =>
      refine tm_callIE (As := [.null, .int n1, .null]) (rest := rest) (wr := wXR ad ac dA tt sc h ++ P) X (ceX14_initNN l D dA q n1) q572 q573 q137 q574 rfl cyX14_init rfl ⟨by omega, by omega⟩ hcat hd ⟨by omega, by omega⟩ rfl rfl ?_
      rintro _ _ ⟨rfl, rfl⟩
      exact tm_eqw X (List.append_assoc _ _ _) k
    | some b2 =>
      refine tm_callIE (As := [.null, .int n1, .ref b2]) (rest := rest) (wr := wXR ad ac dA tt sc h ++ P) X (ceX14_initNR l D dA q n1 b2) q572 q573 q137 q574 rfl cyX14_init rfl ⟨by omega, by omega⟩ hcat hd ⟨by omega, by omega⟩ rfl rfl ?_
      rintro _ _ ⟨rfl, rfl⟩
      exact tm_eqw X (List.append_assoc _ _ _) k
  | some b0 =>
    cases b2 with
    | none =>
      refine tm_callIE (As := [.ref b0, .int n1, .null]) (rest := rest) (wr := wXR ad ac dA tt sc h ++ P) X (ceX14_initRN l D dA q b0 n1) q572 q573 q137 q574 rfl cyX14_init rfl ⟨by omega, by omega⟩ hcat hd ⟨by omega, by omega⟩ rfl rfl ?_
      rintro _ _ ⟨rfl, rfl⟩
      exact tm_eqw X (List.append_assoc _ _ _) k
    | some b2 =>
      refine tm_callIE (As := [.ref b0, .int n1, .ref b2]) (rest := rest) (wr := wXR ad ac dA tt sc h ++ P) X (ceX14_init l D dA q b0 n1 b2) q572 q573 q137 q574 rfl cyX14_init rfl ⟨by omega, by omega⟩ hcat hd ⟨by omega, by omega⟩ rfl rfl ?_
      rintro _ _ ⟨rfl, rfl⟩
      exact tm_eqw X (List.append_assoc _ _ _) k
theorem tm_putRow (X : IsG G l cc nL "HighSpots$Reader" D dA fr lo mc ms) {b q : Nat} {x0 x1 x2 : Value} (hd : decode cc pc = .ok (.putfield 94, 3)) (k : TM G res M (wXP ad ac dA tt sc ((b, .inr (6, [x0, x1, .ref q])) :: P) h) ce sl (pc + 3) lv st) : TM G res M (wXP ad ac dA tt sc ((b, .inr (6, [x0, x1, x2])) :: P) h) ce sl pc lv (.ref q :: .ref b :: st) := by
  have e1 : (wXP ad ac dA tt sc ((b, .inr (6, [x0, x1, x2])) :: P) h)[(wXR ad ac dA tt sc h).length]? = some (b, .inr (6, [x0, x1, x2])) := by
    unfold wXP
    rw [List.getElem?_append_right (Nat.le_refl _), Nat.sub_self]
    rfl
  refine tm_putVN (f := 2) (v := .ref q) X _ e1 in_X8 rfl (Nat.le_of_ble_eq_true rfl) tyX8 tyX8_ok nmX8 rfl rfl rfl rfl (Nat.le_of_ble_eq_true rfl) q535 rfl hd ?_ k
  unfold wXP
  rw [List.set_append_right _ _ (Nat.le_refl _), Nat.sub_self]
  rfl
theorem tm_getRow (X : IsG G l cc nL "HighSpots$Reader" D dA fr lo mc ms) {b : Nat} {x0 x1 x2 : Value} (hd : decode cc pc = .ok (.getfield 94, 3)) (k : TM G res M (wXP ad ac dA tt sc ((b, .inr (6, [x0, x1, x2])) :: P) h) ce sl (pc + 3) lv (x2 :: st)) : TM G res M (wXP ad ac dA tt sc ((b, .inr (6, [x0, x1, x2])) :: P) h) ce sl pc lv (.ref b :: st) := by
  have e1 : (wXP ad ac dA tt sc ((b, .inr (6, [x0, x1, x2])) :: P) h)[(wXR ad ac dA tt sc h).length]? = some (b, .inr (6, [x0, x1, x2])) := by
    unfold wXP
    rw [List.getElem?_append_right (Nat.le_refl _), Nat.sub_self]
    rfl
  exact tm_getVN (f := 2) X _ e1 in_X8 rfl (Nat.le_of_ble_eq_true rfl) rfl q535 rfl hd k
theorem tm_putSome (X : IsG G l cc nL "HighSpots$Reader" D dA fr lo mc ms) {b q : Nat} {x0 x1 x2 : Value} (hd : decode cc pc = .ok (.putfield 123, 3)) (k : TM G res M (wXP ad ac dA tt sc ((b, .inr (9, [x0, x1, .ref q])) :: P) h) ce sl (pc + 3) lv st) : TM G res M (wXP ad ac dA tt sc ((b, .inr (9, [x0, x1, x2])) :: P) h) ce sl pc lv (.ref q :: .ref b :: st) := by
  have e1 : (wXP ad ac dA tt sc ((b, .inr (9, [x0, x1, x2])) :: P) h)[(wXR ad ac dA tt sc h).length]? = some (b, .inr (9, [x0, x1, x2])) := by
    unfold wXP
    rw [List.getElem?_append_right (Nat.le_refl _), Nat.sub_self]
    rfl
  refine tm_putVN (f := 2) (v := .ref q) X _ e1 in_X12 rfl (Nat.le_of_ble_eq_true rfl) tyX12 tyX12_ok nmX12 rfl rfl rfl rfl (Nat.le_of_ble_eq_true rfl) q593 rfl hd ?_ k
  unfold wXP
  rw [List.set_append_right _ _ (Nat.le_refl _), Nat.sub_self]
  rfl
theorem tm_getSome (X : IsG G l cc nL "HighSpots$Reader" D dA fr lo mc ms) {b : Nat} {x0 x1 x2 : Value} (hd : decode cc pc = .ok (.getfield 123, 3)) (k : TM G res M (wXP ad ac dA tt sc ((b, .inr (9, [x0, x1, x2])) :: P) h) ce sl (pc + 3) lv (x2 :: st)) : TM G res M (wXP ad ac dA tt sc ((b, .inr (9, [x0, x1, x2])) :: P) h) ce sl pc lv (.ref b :: st) := by
  have e1 : (wXP ad ac dA tt sc ((b, .inr (9, [x0, x1, x2])) :: P) h)[(wXR ad ac dA tt sc h).length]? = some (b, .inr (9, [x0, x1, x2])) := by
    unfold wXP
    rw [List.getElem?_append_right (Nat.le_refl _), Nat.sub_self]
    rfl
  exact tm_getVN (f := 2) X _ e1 in_X12 rfl (Nat.le_of_ble_eq_true rfl) rfl q593 rfl hd k
/-- what a method that makes nodes leaves: the pool behind, the answer -/
def RPost (ad ac : Nat → Nat) (dA : Nat → ClassId) (tt : (Nat → Option Nat) × (Nat → Option Nat) × va_W) (sc : (Nat → Option Nat) × (Nat → Option Nat)) (Q : Hp → va_W → Option Nat → Prop) : Option Value → va_W → Prop := fun rv w' => ∃ (h' : Hp) (P : va_W) (x : Option Nat), w' = wXP ad ac dA tt sc P h' ∧ rv = some (va_rf x) ∧ Q h' P x
theorem tm_rret {Q : Hp → va_W → Option Nat → Prop} {x : Option Nat} (X : IsG G l cc nL own D dA fr lo mc ms) (hR : ∀ (v : Value) (w' : va_W), (v = .null ∨ ∃ a, v = .ref a) → RPost ad ac dA tt sc Q (some v) w' → RTa G cc w' mc ms v) (hQ : Q h P x) (hd : decode cc pc = .ok (.areturn, 1)) (hf : ce ≤ mc ∧ sl ≤ ms) : TM G () (some ()) (wXP ad ac dA tt sc P h) ce sl pc lv [va_rf x] :=
  tm_widen (ce' := mc) (sl' := ms) X hf.1 hf.2 (fun _ => hR (va_rf x) _ (by cases x with | none => exact Or.inl rfl | some x => exact Or.inr ⟨x, rfl⟩) ⟨h, P, x, rfl, rfl, hQ⟩ pc lv hd)
theorem tm_rret1 {Q : Hp → va_W → Option Nat → Prop} {x : Nat} (X : IsG G l cc nL own D dA fr lo mc ms) (hR : ∀ (v : Value) (w' : va_W), (v = .null ∨ ∃ a, v = .ref a) → RPost ad ac dA tt sc Q (some v) w' → RTa G cc w' mc ms v) (hQ : Q h P (some x)) (hd : decode cc pc = .ok (.areturn, 1)) (hf : ce ≤ mc ∧ sl ≤ ms) : TM G () (some ()) (wXP ad ac dA tt sc P h) ce sl pc lv [.ref x] := tm_rret X hR hQ hd hf
theorem cyX6_factor : Callee yX6_factor 0 := by unfold Callee; decide +kernel
abbrev CX_factor (l : Launch) (D : va_G) (dA : Nat → ClassId) (fr lo mc ms : Nat) (ad ac : Nat → Nat) (tt : (Nat → Option Nat) × (Nat → Option Nat) × va_W) (sc : (Nat → Option Nat) × (Nat → Option Nat)) (h : Hp) (Q : Hp → va_W → Option Nat → Prop) : Prop := CTE l yX6_factor cX6_factor 3 (some (.object "HighSpots$Sum")) D dA fr lo mc ms (wXR ad ac dA tt sc h) [.ref (ac 90)] (RPost ad ac dA tt sc Q)
theorem tm_rfactor (X : IsG G l cc nL "HighSpots$Reader" D dA fr lo mc ms) {Q : Hp → va_W → Option Nat → Prop} {fr1 lo1 mc1 ms1 : Nat} (hC : CX_factor l D dA fr1 lo1 mc1 ms1 ad ac tt sc h Q) (hroom : fr1 + 1 ≤ fr ∧ 22 + lo1 ≤ lo) (hcat : (rest.map fun v => v.category).sum ≤ 8) (hd : decode cc pc = .ok (.invokevirtual 88, 3)) (hf : ce + mc1 ≤ mc ∧ sl + ms1 ≤ ms) (k : ∀ (h' : Hp) (P' : va_W) (x : Option Nat), Q h' P' x → TM G res M (wXP ad ac dA tt sc (P' ++ P) h') (ce + mc1) (sl + ms1) (pc + 3) lv (va_rf x :: rest)) : TM G res M (wXP ad ac dA tt sc P h) ce sl pc lv (.ref (ac 90) :: rest) := by
  refine tm_callVFE (As := []) (rest := rest) (wr := P) X hC (lw_V q484 q486 qs7 q123 q487) cyX6_factor rfl (Classical.choose_spec (obXR_90 ad ac dA tt sc h)) rfl ⟨by omega, by omega⟩ hcat hd hf rfl ?_
  rintro _ _ ⟨h', P', x, rfl, rfl, hQ⟩
  exact tm_eqw X (List.append_assoc _ _ _) (k h' P' x hQ)
theorem cyX6_product : Callee yX6_product 0 := by unfold Callee; decide +kernel
abbrev CX_product (l : Launch) (D : va_G) (dA : Nat → ClassId) (fr lo mc ms : Nat) (ad ac : Nat → Nat) (tt : (Nat → Option Nat) × (Nat → Option Nat) × va_W) (sc : (Nat → Option Nat) × (Nat → Option Nat)) (h : Hp) (Q : Hp → va_W → Option Nat → Prop) : Prop := CTE l yX6_product cX6_product 4 (some (.object "HighSpots$Sum")) D dA fr lo mc ms (wXR ad ac dA tt sc h) [.ref (ac 90)] (RPost ad ac dA tt sc Q)
theorem tm_rproduct (X : IsG G l cc nL "HighSpots$Reader" D dA fr lo mc ms) {Q : Hp → va_W → Option Nat → Prop} {fr1 lo1 mc1 ms1 : Nat} (hC : CX_product l D dA fr1 lo1 mc1 ms1 ad ac tt sc h Q) (hroom : fr1 + 1 ≤ fr ∧ 23 + lo1 ≤ lo) (hcat : (rest.map fun v => v.category).sum ≤ 8) (hd : decode cc pc = .ok (.invokevirtual 98, 3)) (hf : ce + mc1 ≤ mc ∧ sl + ms1 ≤ ms) (k : ∀ (h' : Hp) (P' : va_W) (x : Option Nat), Q h' P' x → TM G res M (wXP ad ac dA tt sc (P' ++ P) h') (ce + mc1) (sl + ms1) (pc + 3) lv (va_rf x :: rest)) : TM G res M (wXP ad ac dA tt sc P h) ce sl pc lv (.ref (ac 90) :: rest) := by
  refine tm_callVFE (As := []) (rest := rest) (wr := P) X hC (lw_V q480 q482 qs6 q123 q483) cyX6_product rfl (Classical.choose_spec (obXR_90 ad ac dA tt sc h)) rfl ⟨by omega, by omega⟩ hcat hd hf rfl ?_
  rintro _ _ ⟨h', P', x, rfl, rfl, hQ⟩
  exact tm_eqw X (List.append_assoc _ _ _) (k h' P' x hQ)
theorem cyX6_sum : Callee yX6_sum 0 := by unfold Callee; decide +kernel
abbrev CX_sum (l : Launch) (D : va_G) (dA : Nat → ClassId) (fr lo mc ms : Nat) (ad ac : Nat → Nat) (tt : (Nat → Option Nat) × (Nat → Option Nat) × va_W) (sc : (Nat → Option Nat) × (Nat → Option Nat)) (h : Hp) (Q : Hp → va_W → Option Nat → Prop) : Prop := CTE l yX6_sum cX6_sum 4 (some (.object "HighSpots$Sum")) D dA fr lo mc ms (wXR ad ac dA tt sc h) [.ref (ac 90)] (RPost ad ac dA tt sc Q)
theorem tm_rsum (X : IsG G l cc nL "HighSpots$Reader" D dA fr lo mc ms) {Q : Hp → va_W → Option Nat → Prop} {fr1 lo1 mc1 ms1 : Nat} (hC : CX_sum l D dA fr1 lo1 mc1 ms1 ad ac tt sc h Q) (hroom : fr1 + 1 ≤ fr ∧ 23 + lo1 ≤ lo) (hcat : (rest.map fun v => v.category).sum ≤ 8) (hd : decode cc pc = .ok (.invokevirtual 60, 3)) (hf : ce + mc1 ≤ mc ∧ sl + ms1 ≤ ms) (k : ∀ (h' : Hp) (P' : va_W) (x : Option Nat), Q h' P' x → TM G res M (wXP ad ac dA tt sc (P' ++ P) h') (ce + mc1) (sl + ms1) (pc + 3) lv (va_rf x :: rest)) : TM G res M (wXP ad ac dA tt sc P h) ce sl pc lv (.ref (ac 90) :: rest) := by
  refine tm_callVFE (As := []) (rest := rest) (wr := P) X hC (lw_V q474 q476 qs5 q123 q477) cyX6_sum rfl (Classical.choose_spec (obXR_90 ad ac dA tt sc h)) rfl ⟨by omega, by omega⟩ hcat hd hf rfl ?_
  rintro _ _ ⟨h', P', x, rfl, rfl, hQ⟩
  exact tm_eqw X (List.append_assoc _ _ _) (k h' P' x hQ)
theorem cyX6_piece : Callee yX6_piece 0 := by unfold Callee; decide +kernel
abbrev CX_piece (l : Launch) (D : va_G) (dA : Nat → ClassId) (fr lo mc ms : Nat) (ad ac : Nat → Nat) (tt : (Nat → Option Nat) × (Nat → Option Nat) × va_W) (sc : (Nat → Option Nat) × (Nat → Option Nat)) (h : Hp) (Q : Hp → va_W → Option Nat → Prop) : Prop := CTE l yX6_piece cX6_piece 4 (some (.object "HighSpots$Condition")) D dA fr lo mc ms (wXR ad ac dA tt sc h) [.ref (ac 90)] (RPost ad ac dA tt sc Q)
theorem tm_rpiece (X : IsG G l cc nL "HighSpots$Reader" D dA fr lo mc ms) {Q : Hp → va_W → Option Nat → Prop} {fr1 lo1 mc1 ms1 : Nat} (hC : CX_piece l D dA fr1 lo1 mc1 ms1 ad ac tt sc h Q) (hroom : fr1 + 1 ≤ fr ∧ 23 + lo1 ≤ lo) (hcat : (rest.map fun v => v.category).sum ≤ 8) (hd : decode cc pc = .ok (.invokevirtual 101, 3)) (hf : ce + mc1 ≤ mc ∧ sl + ms1 ≤ ms) (k : ∀ (h' : Hp) (P' : va_W) (x : Option Nat), Q h' P' x → TM G res M (wXP ad ac dA tt sc (P' ++ P) h') (ce + mc1) (sl + ms1) (pc + 3) lv (va_rf x :: rest)) : TM G res M (wXP ad ac dA tt sc P h) ce sl pc lv (.ref (ac 90) :: rest) := by
  refine tm_callVFE (As := []) (rest := rest) (wr := P) X hC (lw_V q553 q555 qs14 q123 q556) cyX6_piece rfl (Classical.choose_spec (obXR_90 ad ac dA tt sc h)) rfl ⟨by omega, by omega⟩ hcat hd hf rfl ?_
  rintro _ _ ⟨h', P', x, rfl, rfl, hQ⟩
  exact tm_eqw X (List.append_assoc _ _ _) (k h' P' x hQ)
theorem cyX6_pieces : Callee yX6_pieces 0 := by unfold Callee; decide +kernel
abbrev CX_pieces (l : Launch) (D : va_G) (dA : Nat → ClassId) (fr lo mc ms : Nat) (ad ac : Nat → Nat) (tt : (Nat → Option Nat) × (Nat → Option Nat) × va_W) (sc : (Nat → Option Nat) × (Nat → Option Nat)) (h : Hp) (Q : Hp → va_W → Option Nat → Prop) : Prop := CTE l yX6_pieces cX6_pieces 3 (some (.object "HighSpots$Condition")) D dA fr lo mc ms (wXR ad ac dA tt sc h) [.ref (ac 90)] (RPost ad ac dA tt sc Q)
theorem tm_rpieces (X : IsG G l cc nL "HighSpots$Reader" D dA fr lo mc ms) {Q : Hp → va_W → Option Nat → Prop} {fr1 lo1 mc1 ms1 : Nat} (hC : CX_pieces l D dA fr1 lo1 mc1 ms1 ad ac tt sc h Q) (hroom : fr1 + 1 ≤ fr ∧ 22 + lo1 ≤ lo) (hcat : (rest.map fun v => v.category).sum ≤ 8) (hd : decode cc pc = .ok (.invokevirtual 126, 3)) (hf : ce + mc1 ≤ mc ∧ sl + ms1 ≤ ms) (k : ∀ (h' : Hp) (P' : va_W) (x : Option Nat), Q h' P' x → TM G res M (wXP ad ac dA tt sc (P' ++ P) h') (ce + mc1) (sl + ms1) (pc + 3) lv (va_rf x :: rest)) : TM G res M (wXP ad ac dA tt sc P h) ce sl pc lv (.ref (ac 90) :: rest) := by
  refine tm_callVFE (As := []) (rest := rest) (wr := P) X hC (lw_V q549 q551 qs13 q123 q552) cyX6_pieces rfl (Classical.choose_spec (obXR_90 ad ac dA tt sc h)) rfl ⟨by omega, by omega⟩ hcat hd hf rfl ?_
  rintro _ _ ⟨h', P', x, rfl, rfl, hQ⟩
  exact tm_eqw X (List.append_assoc _ _ _) (k h' P' x hQ)
theorem cyX6_condition : Callee yX6_condition 0 := by unfold Callee; decide +kernel
abbrev CX_condition (l : Launch) (D : va_G) (dA : Nat → ClassId) (fr lo mc ms : Nat) (ad ac : Nat → Nat) (tt : (Nat → Option Nat) × (Nat → Option Nat) × va_W) (sc : (Nat → Option Nat) × (Nat → Option Nat)) (h : Hp) (Q : Hp → va_W → Option Nat → Prop) : Prop := CTE l yX6_condition cX6_condition 3 (some (.object "HighSpots$Condition")) D dA fr lo mc ms (wXR ad ac dA tt sc h) [.ref (ac 90)] (RPost ad ac dA tt sc Q)
theorem tm_rcondition (X : IsG G l cc nL "HighSpots$Reader" D dA fr lo mc ms) {Q : Hp → va_W → Option Nat → Prop} {fr1 lo1 mc1 ms1 : Nat} (hC : CX_condition l D dA fr1 lo1 mc1 ms1 ad ac tt sc h Q) (hroom : fr1 + 1 ≤ fr ∧ 22 + lo1 ≤ lo) (hcat : (rest.map fun v => v.category).sum ≤ 8) (hd : decode cc pc = .ok (.invokevirtual 110, 3)) (hf : ce + mc1 ≤ mc ∧ sl + ms1 ≤ ms) (k : ∀ (h' : Hp) (P' : va_W) (x : Option Nat), Q h' P' x → TM G res M (wXP ad ac dA tt sc (P' ++ P) h') (ce + mc1) (sl + ms1) (pc + 3) lv (va_rf x :: rest)) : TM G res M (wXP ad ac dA tt sc P h) ce sl pc lv (.ref (ac 90) :: rest) := by
  refine tm_callVFE (As := []) (rest := rest) (wr := P) X hC (lw_V q543 q545 qs12 q123 q546) cyX6_condition rfl (Classical.choose_spec (obXR_90 ad ac dA tt sc h)) rfl ⟨by omega, by omega⟩ hcat hd hf rfl ?_
  rintro _ _ ⟨h', P', x, rfl, rfl, hQ⟩
  exact tm_eqw X (List.append_assoc _ _ _) (k h' P' x hQ)
end RROWS
