/-! contracts, their opening, returns, calls, switches -/
set_option maxRecDepth 100000
def PCx (D : va_G) (dA : Nat → ClassId) (w : va_W) (sz : Nat) (av : List Value) : Array Value → State → Prop := va_Pc av (fun U => U.heap.size = sz ∧ va_P D vwCl w U.heap ∧ va_K D vwCl (tyA dA) U ∧ (KN U ∧ SK dA (va_A w sz) U U.heap) ∧ va_D (fun _ => True) w)
def QCx (D : va_G) (w w' : va_W) (sz : Nat) (rv : Option Value) : Array Value → State → Outcome → State → Prop := fun _ st oc t => (oc = .returned rv ∧ va_P D vwCl w' t.heap ∧ va_D (va_A w sz) w') ∧ va_F (va_A w sz) st t
/-- A CONTRACT: with the world w and the arguments av, y returns rv, and the world is w' -/
def CT (l : Launch) (y : MethodName) (cc : ByteArray) (nL : Nat) (ret : Option FieldType) (D : va_G) (dA : Nat → ClassId) (fr lo mc ms : Nat) (w : va_W) (av : List Value) (rv : Option Value) (w' : va_W) : Prop :=
  ∀ sz : Nat, Met l y (ws_ y cc nL ret) { frames := fr, cells := mc, slots := ms, locals := lo } (PCx D dA w sz av) (QCx D w w' sz rv) mc ms (va_A w sz)
/-- returns: at a return instruction with the answer on the stack and the world w', all is well -/
def RTi (G : Gty) (cc : ByteArray) (w' : va_W) (mc ms : Nat) (v : Int32) : Prop := ∀ (pc : Nat) (lv : List (Nat × Value)), decode cc pc = .ok (.ireturn, 1) → G w' mc ms pc lv [.int v]
def RTv (G : Gty) (cc : ByteArray) (w' : va_W) (mc ms : Nat) : Prop := ∀ (pc : Nat) (lv : List (Nat × Value)), decode cc pc = .ok (.return_, 1) → G w' mc ms pc lv []
def RTa (G : Gty) (cc : ByteArray) (w' : va_W) (mc ms : Nat) (v : Value) : Prop := ∀ (pc : Nat) (lv : List (Nat × Value)), decode cc pc = .ok (.areturn, 1) → G w' mc ms pc lv [v]
section CALLS
variable {l : Launch} {y : MethodName} {cc : ByteArray} {nL : Nat} {ret : Option FieldType} {D : va_G} {dA : Nat → ClassId} {fr lo mc ms : Nat} {w w' : va_W} {av : List Value} {rv : Option Value}
theorem ct_open (hy : plainName y.cls = true) (hlen : (lg_sl av).length ≤ nL)
    (body : ∀ G : Gty, IsG G l cc nL y.cls D dA fr lo mc ms → (ret = some .int → ∀ v, rv = some (.int v) → RTi G cc w' mc ms v) → (ret = some .boolean → ∀ v : Int32, v = 0 ∨ v = 1 → rv = some (.int v) → RTi G cc w' mc ms v) → (ret = none → rv = none → RTv G cc w' mc ms) →
      ((∃ n, ret = some (.object n)) → ∀ v : Value, (v = .null ∨ ∃ a, v = .ref a) → rv = some v → RTa G cc w' mc ms v) → G w 0 0 0 (lv_args 0 av) []) : CT l y cc nL ret D dA fr lo mc ms w av rv w' := by
  intro sz
  refine Met.ofW (cc := cc) (maxL := nL) (ret := ret) hy rfl ?_
  intro p e s m args below meth c s₁ B hml hv
  obtain ⟨rfl, hsz, hP, hK, hN, hD0⟩ := hv
  have hx := B.exec
  have hb := B.bytes
  have hr := B.returns
  have hlk := B.notSynchronized
  have hts := atoms_spec (ws := ws_ y cc nL ret) B.pre
  have hts : ∀ w ∈ lw_all, w.before _ s = true := fun w h => hts w (List.mem_cons_of_mem _ h)
  have hown : s.vm.findClass y.cls = some m.cls := findClass_of_methodNamed B.named
  subst hsz
  have hD := hD0.self (sz := s.heap.size)
  have hl := lv_entry av (n := nL) hlen
  rw [lg_entry_eq]
  generalize (lg_sl av ++ List.replicate (nL - (lg_sl av).length) Slot.unset).toArray = ls at hl ⊢
  have hA : ∀ q : Nat, s.heap.size ≤ q → va_A w s.heap.size q := fun q h => Or.inr h
  refine body (fun w ce sl pc lv st => ∀ (H : Heap) (locs : List Loc) (ls : Array Slot), va_P D vwCl w H → va_D (va_A _ s.heap.size) w → va_S (va_A _ s.heap.size) s.heap H locs → lv_has ls nL lv → W p l e (headSpec (ws_ y cc nL ret) { frames := fr, cells := mc, slots := ms, locals := lo }).room s m av.toArray below meth c H locs ce sl (MQ below (QCx D _ w' s.heap.size rv) av.toArray s mc ms (va_A _ s.heap.size)) (F0 m pc ls st)) ⟨p, e, _, s, m, _, below, meth, c, _, _, ⟨hx, hb, hml, hown, hts⟩, hK, hN, hA, ⟨rfl, rfl, rfl, rfl⟩, fun _ _ _ _ _ _ => Iff.rfl⟩ ?_ ?_ ?_ ?_ s.heap [] ls hP hD va_S.rf hl
  · intro hret v hrv pc lv hd H locs ls hP hD hS hl
    subst hret
    subst hrv
    exact W.iret hx hb hr (fun t ht hW => ⟨⟨rfl, by rw [ht]; exact hP, hD⟩, hS.F ht⟩) hS.2.2 hd hlk
  · intro hret v hv01 hrv pc lv hd H locs ls hP hD hS hl
    subst hret
    subst hrv
    exact W.zret hx hb hr (by rcases hv01 with rfl | rfl <;> rfl) (fun t ht hW => ⟨⟨rfl, by rw [ht]; exact hP, hD⟩, hS.F ht⟩) hS.2.2 hd hlk
  · intro hret hrv pc lv hd H locs ls hP hD hS hl
    subst hret
    subst hrv
    exact W.vret hx hb hr (fun t ht hW => ⟨⟨rfl, by rw [ht]; exact hP, hD⟩, hS.F ht⟩) hS.2.2 hd hlk
  · intro hret v hv hrv pc lv hd H locs ls hP hD hS hl
    obtain ⟨n, rfl⟩ := hret
    subst hrv
    exact W.aret hx hb hr (Or.inl ⟨n, rfl⟩) hv (fun t ht hW => ⟨⟨rfl, by rw [ht]; exact hP, hD⟩, hS.F ht⟩) hS.2.2 hd hlk
end CALLS
section CALLS2
variable {p : Program} {l : Launch} {e : Env} {R : Room} {s : State} {m : MethodId} {args : Array Value} {below : List Frame} {meth : Method} {c : Code} {H : Heap} {locs : List Loc} {cells slots : Nat} {Q : State → Prop} {pc : Nat} {ls : Array Slot} {rest st0 : List Value} {a : Array Value} {A : Nat → Prop} {mc ms : Nat} {D : va_G} {w wc wc' : va_W} {rv : Option Value}
theorem va_A.of {sz : Nat} {H0 : Heap} (hD : va_D A w) (hsz : H0.size ≤ sz) (hA : ∀ q : Nat, H0.size ≤ q → A q) (hsub : ∀ x ∈ wc, x ∈ w) : ∀ q, va_A wc sz q → A q := by
  intro q h
  rcases h with ⟨k, e, h⟩ | h
  · obtain ⟨j, hj⟩ := List.getElem?_of_mem (hsub _ (List.mem_of_getElem? h))
    exact hD.2 j _ hj
  · exact hA q (Nat.le_trans hsz h)
/-- behind any call -/
theorem callBehind (hr : va_Run p l e R s m args below meth c H locs cells slots mc ms (F0 m pc ls st0) rest (QCx D wc wc' H.size rv a) (va_A wc H.size)) (hS : va_S A s.heap H locs) (hf : ∀ q, va_A wc H.size q → A q)
    (kk : ∀ (H1 : Heap) (locs1 : List Loc), va_P D vwCl wc' H1 → va_D (va_A wc H.size) wc' → H.size ≤ H1.size → (∀ q : Nat, q < H.size → ¬ va_A wc H.size q → H1[q]? = H[q]?) → va_S A s.heap H1 locs1 → W p l e R s m args below meth c H1 locs1 (cells + mc) (slots + ms) Q (F0 m (pc + 3) ls (rv.toList ++ rest))) : W p l e R s m args below meth c H locs cells slots Q (F0 m pc ls st0) := by
  intro T hT X
  obtain ⟨v, st₀, t, T', L, h0, X', hL, e1, e2, ⟨⟨hv, hp, hb⟩, hz, hk⟩, st⟩ := hr T hT X
  cases hv
  rw [h0] at hz hk
  obtain ⟨t2, a1, b1⟩ := kk T'.heap (locs ++ L) (by rw [e1]; exact hp) hb (by rw [e1]; exact hz) (fun q h1 h2 => by rw [e1]; exact hk q h1 h2)
    ⟨Nat.le_trans hS.1 (by rw [e1]; exact hz), fun q h1 h2 => by rw [e1, hk q (Nat.lt_of_lt_of_le h1 hS.1) (fun z => h2 (hf q z))]; exact hS.2.1 q h1 h2, fun q hq => by
      rcases List.mem_append.mp hq with h | h
      · exact hS.2.2 q h
      · exact hf _ (hL q h)⟩ T' rfl X'
  exact ⟨t2, st t2 a1, b1⟩
theorem PCx.blind {dA : Nat → ClassId} {sz : Nat} {av : List Value} : FrameBlind (PCx D dA w sz av) := by
  intro a U g mk q
  obtain ⟨q0, q1, qP, qK, qN, qD⟩ := q
  exact ⟨q0, q1, qP, va_K.moved (u := U) (U := U.calling g mk a) (Vm.Alike.refl U.vm) qK, ⟨KN.same (u := U) (U := U.calling g mk a) rfl qN.1, SK.same (u := U) (U := U.calling g mk a) rfl qN.2⟩, qD⟩
theorem PCx.at {dA : Nat → ClassId} {av : List Value} (hK : va_K D vwCl (tyA dA) s) (hN : KN s ∧ SK dA A s s.heap) (hS : va_S A s.heap H locs) (hF : ∀ q, va_A w H.size q → A q) {A2 : Nat → Prop} (hP : va_P D vwCl w H) (hD : va_D A2 w) : ∀ U : State, U.heap = H → s.WarmedH U.vm → PCx D dA w H.size av av.toArray U :=
  fun U hU hW => ⟨rfl, by rw [hU], by rw [hU]; exact hP, va_K.moved hW.alike hK, ⟨KN.warm hW hN.1, hN.2.warm hW (fun a h1 h2 => by rw [hU]; exact hS.2.1 a h1 h2) hF⟩, hD.weaken (fun _ _ _ _ => trivial)⟩
theorem va_P.left {w1 w2 : va_W} (h : va_P D vwCl (w1 ++ w2) H) : va_P D vwCl w1 H := fun k q hk => by
  obtain ⟨i, hi⟩ := List.getElem?_of_mem (List.mem_append_left w2 (List.mem_of_getElem? hk))
  exact h i q hi
theorem va_P.right {w1 w2 : va_W} (h : va_P D vwCl (w1 ++ w2) H) : va_P D vwCl w2 H := fun k q hk => by
  obtain ⟨i, hi⟩ := List.getElem?_of_mem (List.mem_append_right w1 (List.mem_of_getElem? hk))
  exact h i q hi
theorem va_D.left {w1 w2 : va_W} (h : va_D A (w1 ++ w2)) : va_D A w1 := by
  refine ⟨fun i j p q hi hj hpq => h.1 i j p q ?_ ?_ hpq, fun k q hk => h.2 k q ?_⟩
  · rw [List.getElem?_append_left (List.getElem?_eq_some_iff.mp hi).1]; exact hi
  · rw [List.getElem?_append_left (List.getElem?_eq_some_iff.mp hj).1]; exact hj
  · rw [List.getElem?_append_left (List.getElem?_eq_some_iff.mp hk).1]; exact hk
theorem va_D.right {w1 w2 : va_W} (h : va_D A (w1 ++ w2)) : va_D A w2 := by
  have at' : ∀ (k : Nat) (q : Nat × va_E), w2[k]? = some q → (w1 ++ w2)[w1.length + k]? = some q := fun k q hk => by rw [List.getElem?_append_right (by omega)]; rw [← hk]; congr 1; omega
  exact ⟨fun i j p q hi hj hpq => by have := h.1 _ _ p q (at' i p hi) (at' j q hj) hpq; omega, fun k q hk => h.2 _ q (at' k q hk)⟩
theorem va_D.apart {w1 w2 : va_W} (h : va_D A (w1 ++ w2)) {i j : Nat} {p q : Nat × va_E} (hi : w1[i]? = some p) (hj : w2[j]? = some q) : p.1 ≠ q.1 := by
  intro e
  have hl := (List.getElem?_eq_some_iff.mp hi).1
  have := h.1 i (w1.length + j) p q (by rw [List.getElem?_append_left hl]; exact hi) (by rw [List.getElem?_append_right (by omega), ← hj]; congr 1; omega) e
  omega
end CALLS2
section CALLS3
variable {G : Gty} {l : Launch} {cc : ByteArray} {nL : Nat} {own : String} {D : va_G} {dA : Nat → ClassId} {fr lo mc ms : Nat} {ρ : Type} {res : ρ} {M : Option ρ} {w wc' : va_W} {ce sl pc : Nat} {lv : List (Nat × Value)} {rest : List Value}
variable {y : MethodName} {bytes : ByteArray} {maxL : Nat} {ret : Option FieldType} {fr1 lo1 mc1 ms1 : Nat} {As : List Value} {rv : Option Value} {b : Nat} {index : Nat}
/-- what is asked of a callee once: its name is plain, it has n parameters -/
def Callee (y : MethodName) (n : Nat) : Prop := y.cls ≠ "java/lang/invoke/MethodHandle" ∧ y.cls ≠ "java/lang/invoke/VarHandle" ∧ (parseMethodDescriptor y.desc).map (fun d => d.parameters.length) = some n
/-- which world a call takes: all of it -/
theorem tm_callV {n q0 ci N : Nat} {T0 : u_T} {fs : List Value} (X : IsG G l cc nL own D dA fr lo mc ms) (hC : CT l y bytes maxL ret D dA fr1 lo1 mc1 ms1 w (.ref b :: As) rv wc') (hT : GoodIn lw_all (wsV own index y.cls y (ws_ y bytes maxL ret))) (hcy : Callee y n) (hn : As.length = n)
    (hq : w[q0]? = some (b, .inr (ci, fs))) (hcl : vwCl[ci]? = some (y.cls, T0, N)) (hroom : fr1 + 1 ≤ fr ∧ 8 + (maxL + 11) + lo1 ≤ lo) (hcat : (rest.map fun v => v.category).sum ≤ 8) (hd : decode cc pc = .ok (.invokevirtual index, 3)) (hf : ce + mc1 ≤ mc ∧ sl + ms1 ≤ ms)
    {st0 : List Value} (hst : st0 = As.reverse ++ .ref b :: rest) (k : TM G res M wc' (ce + mc1) (sl + ms1) (pc + 3) lv (rv.toList ++ rest)) : TM G res M w ce sl pc lv st0 := by
  obtain ⟨p, e, R, s, m, args, below, meth, c, Q, A, ⟨hx, hb, hml, hown, hts⟩, hK, hN, hA, ⟨h1, h2, h3, h4⟩, hG⟩ := X
  intro hm
  rw [hG]
  intro H locs ls hP hD hS hl
  have hF := va_A.of hD hS.1 hA (fun x h => h)
  refine callBehind (va_runV (As := As) (rest := rest) ⟨hx, hb, hml, hown, hts⟩ (hC H.size) (cwV n hts hT rfl rfl rfl ⟨rfl, hcy⟩ ⟨by rw [h1]; exact hroom.1, by rw [h2]; exact hroom.2⟩) ⟨PCx.blind, va_recv hK hP hcl hq, PCx.at hK hN hS hF hP hD⟩ rfl hn hl.1 hst (lv_room hcat) hd ⟨by rw [h3]; exact hf.1, by rw [h4]; exact hf.2⟩) hS hF (fun H1 locs1 hP1 hD1 hz hk hS1 => ?_)
  exact (hG ..).mp (k hm) H1 locs1 ls hP1 (hD1.weaken (fun _ q _ h => hF q.1 h)) hS1 hl
/-- the same for a nest mate's private method -/
theorem tm_callVN {n q0 ci N : Nat} {host : String} {T0 : u_T} {fs : List Value} (X : IsG G l cc nL own D dA fr lo mc ms) (hC : CT l y bytes maxL ret D dA fr1 lo1 mc1 ms1 w (.ref b :: As) rv wc') (hlk : Cond.methodLinkNest own index y host ∈ lw_tbl) (hins : Cond.instanceMethod y ∈ lw_all) (hsel : Cond.selects y.cls y y ∈ lw_all) (hini : Cond.initialized y.cls ∈ lw_all) (hcd : Cond.code y bytes maxL ret ∈ lw_all) (hcy : Callee y n) (hn : As.length = n)
    (hq : w[q0]? = some (b, .inr (ci, fs))) (hcl : vwCl[ci]? = some (y.cls, T0, N)) (hroom : fr1 + 1 ≤ fr ∧ 8 + (maxL + 11) + lo1 ≤ lo) (hcat : (rest.map fun v => v.category).sum ≤ 8) (hd : decode cc pc = .ok (.invokevirtual index, 3)) (hf : ce + mc1 ≤ mc ∧ sl + ms1 ≤ ms)
    {st0 : List Value} (hst : st0 = As.reverse ++ .ref b :: rest) (k : TM G res M wc' (ce + mc1) (sl + ms1) (pc + 3) lv (rv.toList ++ rest)) : TM G res M w ce sl pc lv st0 := by
  obtain ⟨p, e, R, s, m, args, below, meth, c, Q, A, ⟨hx, hb, hml, hown, hts⟩, hK, hN, hA, ⟨h1, h2, h3, h4⟩, hG⟩ := X
  intro hm
  rw [hG]
  intro H locs ls hP hD hS hl
  have hF := va_A.of hD hS.1 hA (fun x h => h)
  refine callBehind (va_runVN (As := As) (rest := rest) ⟨hx, hb, hml, hown, hts⟩ (hC H.size) ⟨va_cnB n hts (lw_meth hcd) rfl rfl rfl (hN.1 _ hlk rfl) (hts _ hini) hcy ⟨by rw [h1]; exact hroom.1, by rw [h2]; exact hroom.2⟩, hts _ hins, hts _ hsel⟩ ⟨PCx.blind, va_recv hK hP hcl hq, PCx.at hK hN hS hF hP hD⟩ rfl hn hl.1 hst (lv_room hcat) hd ⟨by rw [h3]; exact hf.1, by rw [h4]; exact hf.2⟩) hS hF (fun H1 locs1 hP1 hD1 hz hk hS1 => ?_)
  exact (hG ..).mp (k hm) H1 locs1 ls hP1 (hD1.weaken (fun _ q _ h => hF q.1 h)) hS1 hl
/-- a static method that takes no world: the world stays -/
theorem tm_callS {n : Nat} (X : IsG G l cc nL own D dA fr lo mc ms) (hC : CT l y bytes maxL ret D dA fr1 lo1 0 0 [] As rv []) (hT : GoodIn lw_all (va_wsS own index y (ws_ y bytes maxL ret))) (hcy : Callee y n) (hn : As.length = n)
    (hroom : fr1 + 1 ≤ fr ∧ 8 + (maxL + 11) + lo1 ≤ lo) (hcat : (rest.map fun v => v.category).sum ≤ 8) (hd : decode cc pc = .ok (.invokestatic index, 3)) (hf : ce ≤ mc ∧ sl ≤ ms)
    {st0 : List Value} (hst : st0 = As.reverse ++ rest) (k : TM G res M w ce sl (pc + 3) lv (rv.toList ++ rest)) : TM G res M w ce sl pc lv st0 := by
  obtain ⟨p, e, R, s, m, args, below, meth, c, Q, A, ⟨hx, hb, hml, hown, hts⟩, hK, hN, hA, ⟨h1, h2, h3, h4⟩, hG⟩ := X
  intro hm
  rw [hG]
  intro H locs ls hP hD hS hl
  have hP0 : va_P D vwCl [] H := fun k q hk => by cases hk
  have hD0 : va_D A [] := ⟨fun i j p q hi => by (cases hi), fun k q hk => by cases hk⟩
  have hF := va_A.of (A := A) (sz := H.size) hD0 hS.1 hA (fun x h => h)
  refine callBehind (va_runS (As := As) (rest := rest) ⟨hx, hb, hml, hown, hts⟩ (hC H.size) (va_cwS n hts hT rfl rfl rfl hcy ⟨by rw [h1]; exact hroom.1, by rw [h2]; exact hroom.2⟩) ⟨PCx.blind, PCx.at hK hN hS hF hP0 hD0⟩ rfl hn hl.1 hst (lv_room hcat) hd ⟨by rw [h3]; exact hf.1, by rw [h4]; exact hf.2⟩) hS hF (fun H1 locs1 hP1 hD1 hz hk hS1 => ?_)
  refine (hG ..).mp (k hm) H1 locs1 ls (hP.kept (fun j q hj => hk q.1 (hP j q hj).lt (fun z => ?_))) hD hS1 hl
  rcases z with ⟨k, e, z⟩ | z
  · cases z
  · exact absurd (hP j q hj).lt (by omega)
theorem tm_callSN {n : Nat} {host : String} (X : IsG G l cc nL own D dA fr lo mc ms) (hC : CT l y bytes maxL ret D dA fr1 lo1 0 0 [] As rv []) (hlk : Cond.methodLinkNest own index y host ∈ lw_tbl) (hsta : Cond.static y ∈ lw_all) (hini : Cond.initialized y.cls ∈ lw_all) (hcd : Cond.code y bytes maxL ret ∈ lw_all) (hcy : Callee y n) (hn : As.length = n)
    (hroom : fr1 + 1 ≤ fr ∧ 8 + (maxL + 11) + lo1 ≤ lo) (hcat : (rest.map fun v => v.category).sum ≤ 8) (hd : decode cc pc = .ok (.invokestatic index, 3)) (hf : ce ≤ mc ∧ sl ≤ ms)
    {st0 : List Value} (hst : st0 = As.reverse ++ rest) (k : TM G res M w ce sl (pc + 3) lv (rv.toList ++ rest)) : TM G res M w ce sl pc lv st0 := by
  obtain ⟨p, e, R, s, m, args, below, meth, c, Q, A, ⟨hx, hb, hml, hown, hts⟩, hK, hN, hA, ⟨h1, h2, h3, h4⟩, hG⟩ := X
  intro hm
  rw [hG]
  intro H locs ls hP hD hS hl
  have hP0 : va_P D vwCl [] H := fun k q hk => by cases hk
  have hD0 : va_D A [] := ⟨fun i j p q hi => by (cases hi), fun k q hk => by cases hk⟩
  have hF := va_A.of (A := A) (sz := H.size) hD0 hS.1 hA (fun x h => h)
  refine callBehind (va_runSN (As := As) (rest := rest) ⟨hx, hb, hml, hown, hts⟩ (hC H.size) ⟨va_cnB n hts (lw_meth hcd) rfl rfl rfl (hN.1 _ hlk rfl) (hts _ hini) hcy ⟨by rw [h1]; exact hroom.1, by rw [h2]; exact hroom.2⟩, hts _ hsta, trivial⟩ ⟨PCx.blind, PCx.at hK hN hS hF hP0 hD0⟩ rfl hn hl.1 hst (lv_room hcat) hd ⟨by rw [h3]; exact hf.1, by rw [h4]; exact hf.2⟩) hS hF (fun H1 locs1 hP1 hD1 hz hk hS1 => ?_)
  refine (hG ..).mp (k hm) H1 locs1 ls (hP.kept (fun j q hj => hk q.1 (hP j q hj).lt (fun z => ?_))) hD hS1 hl
  rcases z with ⟨k, e, z⟩ | z
  · cases z
  · exact absurd (hP j q hj).lt (by omega)
/-- the mirror of a call: what the callee's mirror answers is used -/
theorem tm_cl1 {α : Type} {N : Option α} {f : α → Option ρ} {st : List Value} (k : ∀ a, N = some a → TM G res (f a) w ce sl pc lv st) : TM G res (cl1 N f) w ce sl pc lv st := by
  intro hm
  cases hN : N with
  | none => rw [hN] at hm; cases hm
  | some a => rw [hN] at hm; exact k a hN hm
theorem tm_cl2 {α β : Type} {N : Option (α × β)} {f : α → β → Option ρ} {st : List Value} (k : ∀ a b, N = some (a, b) → TM G res (f a b) w ce sl pc lv st) : TM G res (cl2 N f) w ce sl pc lv st := by
  intro hm
  cases hN : N with
  | none => rw [hN] at hm; cases hm
  | some a => rw [hN] at hm; exact k a.1 a.2 hN hm
/-- a switch's case, and what is behind all cases -/
theorem tm_sw {dflt lo0 hi off : Int} {offs : Array Int} {len j : Nat} {x : Int32} {M1 M2 : Option ρ} (v : Int32) (tgt : Nat) (X : IsG G l cc nL own D dA fr lo mc ms) (hd : decode cc pc = .ok (.tableswitch dflt lo0 hi offs, len)) (hv : v.toInt = lo0 + (j : Int)) (hj : (j : Int) ≤ hi - lo0) (ho : offs[j]? = some off) (ht : (pc : Int) + off = (tgt : Int)) {st : List Value}
    (k1 : TM G res M1 w ce sl tgt lv st) (k2 : ¬ x = v → TM G res M2 w ce sl pc lv (.int x :: st)) : TM G res (if x = v then M1 else M2) w ce sl pc lv (.int x :: st) := by
  intro hm
  by_cases hc : x = v
  · rw [if_pos hc] at hm
    obtain ⟨p, e, R, s, m, args, below, meth, c, Q, A, ⟨hx, hb, hml, hown, hts⟩, hK, hN, hA, ⟨h1, h2, h3, h4⟩, hG⟩ := X
    rw [hG]
    intro H locs ls hP hD hS hl
    subst hc
    exact lv_tableIn hx hb hd (by omega) (by omega) (by rw [show (x.toInt - lo0).toNat = j by omega]; exact ho) ht ((hG ..).mp (k1 hm) H locs ls hP hD hS hl)
  · rw [if_neg hc] at hm
    exact k2 hc hm
theorem tm_swd {dflt lo0 hi : Int} {offs : Array Int} {len : Nat} {x : Int32} (tgt : Nat) (X : IsG G l cc nL own D dA fr lo mc ms) (hd : decode cc pc = .ok (.tableswitch dflt lo0 hi offs, len)) (h : x.toInt < lo0 ∨ hi < x.toInt) (ht : (pc : Int) + dflt = (tgt : Int)) {st : List Value}
    (k1 : TM G res M w ce sl tgt lv st) : TM G res M w ce sl pc lv (.int x :: st) := by
  intro hm
  obtain ⟨p, e, R, s, m, args, below, meth, c, Q, A, ⟨hx, hb, hml, hown, hts⟩, hK, hN, hA, ⟨h1, h2, h3, h4⟩, hG⟩ := X
  rw [hG]
  intro H locs ls hP hD hS hl
  exact lv_tableOut hx hb hd h ht ((hG ..).mp (k1 hm) H locs ls hP hD hS hl)
theorem ne_toInt {x v : Int32} {n : Int} (h : ¬ x = v) (hn : v.toInt = n) : x.toInt ≠ n := fun e => h (Int32.toInt_inj.mp (e.trans hn.symm))
end CALLS3
