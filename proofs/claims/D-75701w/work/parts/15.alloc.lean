set_option maxRecDepth 100000
/-- in a constructor -/
def IsGI (G : Gty) (l : Launch) (cc : ByteArray) (nL : Nat) (own : String) (D : va_G) (dA : Nat → ClassId) (fr lo mc ms : Nat) : Prop :=
  ∃ (p : Program) (e : Env) (R : Room) (s : State) (m : MethodId) (args : Array Value) (below : List Frame) (meth : Method) (c : Code) (Q : State → Prop) (A : Nat → Prop),
    (p.tables.exec = Jvm.exec ∧ c.code = cc ∧ c.maxLocals = nL ∧ s.vm.findClass own = some m.cls ∧ (∀ w ∈ lw_all, w.before args s = true)) ∧ va_K D vwCl (tyA dA) s ∧ (KN s ∧ SK dA A s s.heap) ∧ (∀ q : Nat, s.heap.size ≤ q → A q) ∧ (R.frames = fr ∧ R.locals = lo ∧ R.cells = mc ∧ R.slots = ms) ∧ meth.name = "<init>" ∧
    ∀ w ce sl pc lv st, G w ce sl pc lv st ↔ ∀ (H : Heap) (locs : List Loc) (ls : Array Slot), va_P D vwCl w H → va_D A w → va_S A s.heap H locs → lv_has ls nL lv → W p l e R s m args below meth c H locs ce sl Q (F0 m pc ls st)
theorem IsGI.g {G : Gty} {l : Launch} {cc : ByteArray} {nL : Nat} {own : String} {D : va_G} {dA : Nat → ClassId} {fr lo mc ms : Nat} (X : IsGI G l cc nL own D dA fr lo mc ms) : IsG G l cc nL own D dA fr lo mc ms := by
  obtain ⟨p, e, R, s, m, args, below, meth, c, Q, A, h1, hK, hN, hA, hR, _, hG⟩ := X
  exact ⟨p, e, R, s, m, args, below, meth, c, Q, A, h1, hK, hN, hA, hR, hG⟩
def QCe (D : va_G) (w : va_W) (sz : Nat) (Post : Option Value → va_W → Prop) : Array Value → State → Outcome → State → Prop := fun _ st oc t => (∃ (rv : Option Value) (w' : va_W), Post rv w' ∧ oc = .returned rv ∧ va_P D vwCl w' t.heap ∧ va_D (va_A w sz) w') ∧ va_F (va_A w sz) st t
/-- A CONTRACT with an existential end: the answer and the world behind it have Post -/
def CTE (l : Launch) (y : MethodName) (cc : ByteArray) (nL : Nat) (ret : Option FieldType) (D : va_G) (dA : Nat → ClassId) (fr lo mc ms : Nat) (w : va_W) (av : List Value) (Post : Option Value → va_W → Prop) : Prop :=
  ∀ sz : Nat, Met l y (ws_ y cc nL ret) { frames := fr, cells := mc, slots := ms, locals := lo } (PCx D dA w sz av) (QCe D w sz Post) mc ms (va_A w sz)
section ALLOC0
variable {l : Launch} {y : MethodName} {cc : ByteArray} {nL : Nat} {ret : Option FieldType} {D : va_G} {dA : Nat → ClassId} {fr lo mc ms : Nat} {w : va_W} {av : List Value} {Post : Option Value → va_W → Prop}
theorem ct_openE (hy : plainName y.cls = true) (hlen : (lg_sl av).length ≤ nL)
    (body : ∀ G : Gty, IsG G l cc nL y.cls D dA fr lo mc ms → (y.name = "<init>" → IsGI G l cc nL y.cls D dA fr lo mc ms) → (ret = some .int → ∀ v w', Post (some (.int v)) w' → RTi G cc w' mc ms v) → (ret = none → ∀ w', Post none w' → RTv G cc w' mc ms) →
      ((∃ n, ret = some (.object n)) → ∀ (v : Value) (w' : va_W), (v = .null ∨ ∃ a, v = .ref a) → Post (some v) w' → RTa G cc w' mc ms v) → G w 0 0 0 (lv_args 0 av) []) : CTE l y cc nL ret D dA fr lo mc ms w av Post := by
  intro sz
  refine Met.ofW (cc := cc) (maxL := nL) (ret := ret) hy rfl ?_
  intro p e s m args below meth c s₁ B hml hv
  obtain ⟨rfl, hsz, hP, hK, hN, hD0⟩ := hv
  have hx := B.exec
  have hb := B.bytes
  have hr := B.returns
  have hlk := B.notSynchronized
  have hts := atoms_spec (ws := ws_ y cc nL ret) B.pre
  have hts : ∀ w ∈ lw_all, w.before _ s = true := fun w h => hts w (List.mem_cons_of_mem _ h)
  have hown : s.vm.findClass y.cls = some m.cls := findClass_of_methodNamed B.named
  subst hsz
  have hD := hD0.self (sz := s.heap.size)
  have hl := lv_entry av (n := nL) hlen
  rw [lg_entry_eq]
  generalize (lg_sl av ++ List.replicate (nL - (lg_sl av).length) Slot.unset).toArray = ls at hl ⊢
  have hA : ∀ q : Nat, s.heap.size ≤ q → va_A w s.heap.size q := fun q h => Or.inr h
  refine body (fun w ce sl pc lv st => ∀ (H : Heap) (locs : List Loc) (ls : Array Slot), va_P D vwCl w H → va_D (va_A _ s.heap.size) w → va_S (va_A _ s.heap.size) s.heap H locs → lv_has ls nL lv → W p l e (headSpec (ws_ y cc nL ret) { frames := fr, cells := mc, slots := ms, locals := lo }).room s m av.toArray below meth c H locs ce sl (MQ below (QCe D _ s.heap.size Post) av.toArray s mc ms (va_A _ s.heap.size)) (F0 m pc ls st)) ⟨p, e, _, s, m, _, below, meth, c, _, _, ⟨hx, hb, hml, hown, hts⟩, hK, hN, hA, ⟨rfl, rfl, rfl, rfl⟩, fun _ _ _ _ _ _ => Iff.rfl⟩ (fun hy1 => ⟨p, e, _, s, m, _, below, meth, c, _, _, ⟨hx, hb, hml, hown, hts⟩, hK, hN, hA, ⟨rfl, rfl, rfl, rfl⟩, (name_of_methodNamed B.named B.method).1.trans hy1, fun _ _ _ _ _ _ => Iff.rfl⟩) ?_ ?_ ?_ s.heap [] ls hP hD va_S.rf hl
  · intro hret v w' hrv pc lv hd H locs ls hP hD hS hl
    subst hret
    exact W.iret hx hb hr (fun t ht hW => ⟨⟨_, _, hrv, rfl, by rw [ht]; exact hP, hD⟩, hS.F ht⟩) hS.2.2 hd hlk
  · intro hret w' hrv pc lv hd H locs ls hP hD hS hl
    subst hret
    exact W.vret hx hb hr (fun t ht hW => ⟨⟨_, _, hrv, rfl, by rw [ht]; exact hP, hD⟩, hS.F ht⟩) hS.2.2 hd hlk
  · intro hret v w' hv hrv pc lv hd H locs ls hP hD hS hl
    obtain ⟨n, rfl⟩ := hret
    exact W.aret hx hb hr (Or.inl ⟨n, rfl⟩) hv (fun t ht hW => ⟨⟨_, _, hrv, rfl, by rw [ht]; exact hP, hD⟩, hS.F ht⟩) hS.2.2 hd hlk
end ALLOC0
section ALLOC1
variable {p : Program} {l : Launch} {e : Env} {R : Room} {s : State} {m : MethodId} {args : Array Value} {below : List Frame} {meth : Method} {c : Code} {H : Heap} {locs : List Loc} {cells slots : Nat} {Q : State → Prop} {pc : Nat} {ls : Array Slot} {rest st0 : List Value} {a : Array Value} {A : Nat → Prop} {mc ms : Nat} {D : va_G} {wr wc : va_W} {Post : Option Value → va_W → Prop}
theorem callBehindE (hr : va_Run p l e R s m args below meth c H locs cells slots mc ms (F0 m pc ls st0) rest (QCe D wc H.size Post a) (va_A wc H.size)) (hS : va_S A s.heap H locs) (hf : ∀ q, va_A wc H.size q → A q)
    (kk : ∀ (rv : Option Value) (wc' : va_W) (H1 : Heap) (locs1 : List Loc), Post rv wc' → va_P D vwCl wc' H1 → va_D (va_A wc H.size) wc' → H.size ≤ H1.size → (∀ q : Nat, q < H.size → ¬ va_A wc H.size q → H1[q]? = H[q]?) → va_S A s.heap H1 locs1 → W p l e R s m args below meth c H1 locs1 (cells + mc) (slots + ms) Q (F0 m (pc + 3) ls (rv.toList ++ rest))) : W p l e R s m args below meth c H locs cells slots Q (F0 m pc ls st0) := by
  intro T hT X
  obtain ⟨v, st₀, t, T', L, h0, X', hL, e1, e2, ⟨⟨rv, wc', hpo, hv, hp, hb⟩, hz, hk⟩, st⟩ := hr T hT X
  cases hv
  rw [h0] at hz hk
  obtain ⟨t2, a1, b1⟩ := kk v wc' T'.heap (locs ++ L) hpo (by rw [e1]; exact hp) hb (by rw [e1]; exact hz) (fun q h1 h2 => by rw [e1]; exact hk q h1 h2)
    ⟨Nat.le_trans hS.1 (by rw [e1]; exact hz), fun q h1 h2 => by rw [e1, hk q (Nat.lt_of_lt_of_le h1 hS.1) (fun z => h2 (hf q z))]; exact hS.2.1 q h1 h2, fun q hq => by
      rcases List.mem_append.mp hq with h | h
      · exact hS.2.2 q h
      · exact hf _ (hL q h)⟩ T' rfl X'
  exact ⟨t2, st t2 a1, b1⟩
/-- the frame rule: the callee's cells stand last -/
theorem frameLast {H1 : Heap} {wc' : va_W} (hP : va_P D vwCl (wr ++ wc) H) (hD : va_D A (wr ++ wc)) (hk : ∀ q : Nat, q < H.size → ¬ va_A wc H.size q → H1[q]? = H[q]?) (hF : ∀ q, va_A wc H.size q → A q) (hP1 : va_P D vwCl wc' H1) (hD1 : va_D (va_A wc H.size) wc') : va_P D vwCl (wr ++ wc') H1 ∧ va_D A (wr ++ wc') := by
  have apart : ∀ (k : Nat) (q : Nat × va_E), wr[k]? = some q → q.1 < H.size ∧ ¬ va_A wc H.size q.1 := by
    intro k q hq
    have hl := (hP.left k q hq).lt
    refine ⟨hl, fun h => ?_⟩
    rcases h with ⟨k2, e, h⟩ | h
    · exact hD.apart hq h rfl
    · omega
  refine ⟨va_P.app (fun k q hq => ?_) hP1, va_D.app hD.left (hD1.weaken (fun k q _ h => hF q.1 h)) (fun i j x y hx hy hxy => ?_)⟩
  · obtain ⟨g1, g2⟩ := apart k q hq
    exact (hP.left k q hq).kept (hk q.1 g1 g2)
  · exact (apart i x hx).2 (by rw [hxy]; exact hD1.2 j y hy)
/-- the frame rule: the callee's cells stand first -/
theorem frameFirst {H1 : Heap} {wc' : va_W} (hP : va_P D vwCl (wc ++ wr) H) (hD : va_D A (wc ++ wr)) (hk : ∀ q : Nat, q < H.size → ¬ va_A wc H.size q → H1[q]? = H[q]?) (hF : ∀ q, va_A wc H.size q → A q) (hP1 : va_P D vwCl wc' H1) (hD1 : va_D (va_A wc H.size) wc') : va_P D vwCl (wc' ++ wr) H1 ∧ va_D A (wc' ++ wr) := by
  have apart : ∀ (k : Nat) (q : Nat × va_E), wr[k]? = some q → q.1 < H.size ∧ ¬ va_A wc H.size q.1 := by
    intro k q hq
    have hl := (hP.right k q hq).lt
    refine ⟨hl, fun h => ?_⟩
    rcases h with ⟨k2, e, h⟩ | h
    · exact hD.apart h hq rfl
    · omega
  refine ⟨va_P.app hP1 (fun k q hq => ?_), va_D.app (hD1.weaken (fun k q _ h => hF q.1 h)) hD.right (fun i j x y hx hy hxy => ?_)⟩
  · obtain ⟨g1, g2⟩ := apart k q hq
    exact (hP.right k q hq).kept (hk q.1 g1 g2)
  · exact (apart j y hy).2 (by rw [← hxy]; exact hD1.2 i x hx)
end ALLOC1
section ALLOC2
variable {G : Gty} {l : Launch} {cc : ByteArray} {nL : Nat} {own : String} {D : va_G} {dA : Nat → ClassId} {fr lo mc ms : Nat} {ρ : Type} {res : ρ} {M M1 M2 : Option ρ} {w w' : va_W} {ce sl pc : Nat} {lv : List (Nat × Value)} {st : List Value}
/-- the world's list: fewer cells, another order -/
theorem tm_w (X : IsG G l cc nL own D dA fr lo mc ms) (is : List Nat) (hn : va_nd is = true) (hs : is.map (fun i => w[i]?) = w'.map some) (k : TM G res M w' ce sl pc lv st) : TM G res M w ce sl pc lv st := by
  obtain ⟨p, e, R, s, m, args, below, meth, c, Q, A, ⟨hx, hb, hml, hown, hts⟩, hK, hN, hA, hR, hG⟩ := X
  intro hm
  rw [hG]
  intro H locs ls hP hD hS hl
  refine (hG ..).mp (k hm) H locs ls (hP.sub is ?_) (hD.sub is hn hs) hS hl
  have h1 : (is.map (fun i => w[i]?)).filterMap id = (w'.map some).filterMap id := by rw [hs]
  simpa [List.filterMap_map, Function.comp] using h1
theorem tm_new (X : IsG G l cc nL own D dA fr lo mc ms) {C : String} {T0 : u_T} {N ci index : Nat} (ty : Nat → FieldType) (hin : ∀ w ∈ u_ws C T0 N, w ∈ lw_all) (hty : ∀ k, k < N → parseFieldDescriptor (T0 k).2.2.1 = some (ty k)) (hcl : Cond.classLink own index C ∈ lw_all) (hinst : Cond.instantiable C N ∈ lw_all) (hini : Cond.initialized C ∈ lw_all) (hc : vwCl[ci]? = some (C, T0, N)) (fs : List Value) (hfs : ∀ j, j < N → defaultValue (ty j) = vp_V fs j) (hf : ce + 1 ≤ mc ∧ sl + N ≤ ms) (hd : decode cc pc = .ok (.new index, 3)) (k : ∀ q : Nat, TM G res M (w ++ [(q, .inr (ci, fs))]) (ce + 1) (sl + N) (pc + 3) lv (.ref q :: st)) : TM G res M w ce sl pc lv st := by
  obtain ⟨p, e, R, s, m, args, below, meth, c, Q, A, ⟨hx, hb, hml, hown, hts⟩, hK, hN, hA, hR, hG⟩ := X
  intro hm
  rw [hG]
  intro H locs ls hP hD hS hl
  obtain ⟨h1, h2, h3, h4⟩ := hR
  exact va_new hx hb hts hin ty hty hown (hts _ hcl) (hts _ hinst) (hts _ hini) hK hP hD hS hA hc hfs (by rw [h3]; exact hf.1) (by rw [h4]; exact hf.2) hd (fun q H1 hP1 hD1 hS1 => (hG ..).mp (k q hm) H1 locs ls hP1 hD1 hS1 hl)
theorem tm_newarray_int (X : IsG G l cc nL own D dA fr lo mc ms) {n : Int32} {N : Nat} (hn : ¬ n < 0) (hN9 : n.toNatClampNeg = N) (hby : N * componentBytes .int ≤ 536870912) (hf : ce + 1 ≤ mc ∧ sl + N ≤ ms) (hd : decode cc pc = .ok (.newarray .int, 2)) (k : ∀ q : Nat, TM G res M (w ++ [(q, .inl (dA 0, N, .inl (fun _ => 0)))]) (ce + 1) (sl + N) (pc + 2) lv (.ref q :: st)) : TM G res M w ce sl pc lv (.int n :: st) := by
  obtain ⟨p, e, R, s, m, args, below, meth, c, Q, A, ⟨hx, hb, hml, hown, hts⟩, hK, hN, hA, hR, hG⟩ := X
  intro hm
  rw [hG]
  intro H locs ls hP hD hS hl
  obtain ⟨h1, h2, h3, h4⟩ := hR
  refine va_newa (atype := .int) (ty := .int) (a0 := (N, .inl (fun _ => 0))) hx hb (hts _ q169) rfl hK hP hD hS hA (fun cA => rfl) hn hN9 hby (by rw [h3]; exact hf.1) (by rw [h4]; exact hf.2) hd (fun q cA H1 hK1 hP1 hD1 hS1 => ?_)
  have e1 : s.vm.findClass ("[" ++ FieldType.toString .int) = some cA := (hK1.2 6 (cA, .int) rfl).2
  have e2 : s.vm.findClass ("[" ++ FieldType.toString .int) = some (dA 0) := (hK.2 0 _ rfl).2
  have e3 : cA = dA 0 := Option.some.inj (e1.symm.trans e2)
  subst e3
  exact (hG ..).mp (k q hm) H1 locs ls hP1 hD1 hS1 hl
theorem tm_newarray_boolean (X : IsG G l cc nL own D dA fr lo mc ms) {n : Int32} {N : Nat} (hn : ¬ n < 0) (hN9 : n.toNatClampNeg = N) (hby : N * componentBytes .boolean ≤ 536870912) (hf : ce + 1 ≤ mc ∧ sl + N ≤ ms) (hd : decode cc pc = .ok (.newarray .boolean, 2)) (k : ∀ q : Nat, TM G res M (w ++ [(q, .inl (dA 1, N, .inl (fun _ => 0)))]) (ce + 1) (sl + N) (pc + 2) lv (.ref q :: st)) : TM G res M w ce sl pc lv (.int n :: st) := by
  obtain ⟨p, e, R, s, m, args, below, meth, c, Q, A, ⟨hx, hb, hml, hown, hts⟩, hK, hN, hA, hR, hG⟩ := X
  intro hm
  rw [hG]
  intro H locs ls hP hD hS hl
  obtain ⟨h1, h2, h3, h4⟩ := hR
  refine va_newa (atype := .boolean) (ty := .boolean) (a0 := (N, .inl (fun _ => 0))) hx hb (hts _ q202) rfl hK hP hD hS hA (fun cA => rfl) hn hN9 hby (by rw [h3]; exact hf.1) (by rw [h4]; exact hf.2) hd (fun q cA H1 hK1 hP1 hD1 hS1 => ?_)
  have e1 : s.vm.findClass ("[" ++ FieldType.toString .boolean) = some cA := (hK1.2 6 (cA, .boolean) rfl).2
  have e2 : s.vm.findClass ("[" ++ FieldType.toString .boolean) = some (dA 1) := (hK.2 1 _ rfl).2
  have e3 : cA = dA 1 := Option.some.inj (e1.symm.trans e2)
  subst e3
  exact (hG ..).mp (k q hm) H1 locs ls hP1 hD1 hS1 hl
theorem tm_newarray_byte (X : IsG G l cc nL own D dA fr lo mc ms) {n : Int32} {N : Nat} (hn : ¬ n < 0) (hN9 : n.toNatClampNeg = N) (hby : N * componentBytes .byte ≤ 536870912) (hf : ce + 1 ≤ mc ∧ sl + N ≤ ms) (hd : decode cc pc = .ok (.newarray .byte, 2)) (k : ∀ q : Nat, TM G res M (w ++ [(q, .inl (dA 2, N, .inl (fun _ => 0)))]) (ce + 1) (sl + N) (pc + 2) lv (.ref q :: st)) : TM G res M w ce sl pc lv (.int n :: st) := by
  obtain ⟨p, e, R, s, m, args, below, meth, c, Q, A, ⟨hx, hb, hml, hown, hts⟩, hK, hN, hA, hR, hG⟩ := X
  intro hm
  rw [hG]
  intro H locs ls hP hD hS hl
  obtain ⟨h1, h2, h3, h4⟩ := hR
  refine va_newa (atype := .byte) (ty := .byte) (a0 := (N, .inl (fun _ => 0))) hx hb (hts _ q231) rfl hK hP hD hS hA (fun cA => rfl) hn hN9 hby (by rw [h3]; exact hf.1) (by rw [h4]; exact hf.2) hd (fun q cA H1 hK1 hP1 hD1 hS1 => ?_)
  have e1 : s.vm.findClass ("[" ++ FieldType.toString .byte) = some cA := (hK1.2 6 (cA, .byte) rfl).2
  have e2 : s.vm.findClass ("[" ++ FieldType.toString .byte) = some (dA 2) := (hK.2 2 _ rfl).2
  have e3 : cA = dA 2 := Option.some.inj (e1.symm.trans e2)
  subst e3
  exact (hG ..).mp (k q hm) H1 locs ls hP1 hD1 hS1 hl
theorem tm_anew_Sum (X : IsG G l cc nL own D dA fr lo mc ms) {n : Int32} {N index : Nat} (hcl : Cond.classLink own index "HighSpots$Sum" ∈ lw_all) (hn : ¬ n < 0) (hN9 : n.toNatClampNeg = N) (hby : N * 4 ≤ 536870912) (hf : ce + 1 ≤ mc ∧ sl + N ≤ ms) (hd : decode cc pc = .ok (.anewarray index, 3)) (k : ∀ q : Nat, TM G res M (w ++ [(q, .inl (dA 4, N, .inr (.inr (.inr (.inr (fun _ => none))))))]) (ce + 1) (sl + N) (pc + 3) lv (.ref q :: st)) : TM G res M w ce sl pc lv (.int n :: st) := by
  obtain ⟨p, e, R, s, m, args, below, meth, c, Q, A, ⟨hx, hb, hml, hown, hts⟩, hK, hN, hA, hR, hG⟩ := X
  intro hm
  rw [hG]
  intro H locs ls hP hD hS hl
  obtain ⟨h1, h2, h3, h4⟩ := hR
  refine va_newq (C := "HighSpots$Sum") hx hb hown (hts _ hcl) (hN.1 _ q210 rfl) hK hP hD hS hA hn hN9 hby (by rw [h3]; exact hf.1) (by rw [h4]; exact hf.2) hd (fun q cA H1 hK1 hP1 hD1 hS1 => ?_)
  obtain ⟨_, _, _, _, _, e1⟩ := (hK1.2 6 (cA, .object "HighSpots$Sum") rfl).2
  obtain ⟨_, _, _, _, _, e2⟩ := (hK.2 4 _ rfl).2
  have e3 : cA = dA 4 := Option.some.inj (e1.symm.trans e2)
  subst e3
  exact (hG ..).mp (k q hm) H1 locs ls hP1 hD1 hS1 hl
theorem tm_anew_Cond (X : IsG G l cc nL own D dA fr lo mc ms) {n : Int32} {N index : Nat} (hcl : Cond.classLink own index "HighSpots$Condition" ∈ lw_all) (hn : ¬ n < 0) (hN9 : n.toNatClampNeg = N) (hby : N * 4 ≤ 536870912) (hf : ce + 1 ≤ mc ∧ sl + N ≤ ms) (hd : decode cc pc = .ok (.anewarray index, 3)) (k : ∀ q : Nat, TM G res M (w ++ [(q, .inl (dA 5, N, .inr (.inr (.inr (.inr (fun _ => none))))))]) (ce + 1) (sl + N) (pc + 3) lv (.ref q :: st)) : TM G res M w ce sl pc lv (.int n :: st) := by
  obtain ⟨p, e, R, s, m, args, below, meth, c, Q, A, ⟨hx, hb, hml, hown, hts⟩, hK, hN, hA, hR, hG⟩ := X
  intro hm
  rw [hG]
  intro H locs ls hP hD hS hl
  obtain ⟨h1, h2, h3, h4⟩ := hR
  refine va_newq (C := "HighSpots$Condition") hx hb hown (hts _ hcl) (hN.1 _ q212 rfl) hK hP hD hS hA hn hN9 hby (by rw [h3]; exact hf.1) (by rw [h4]; exact hf.2) hd (fun q cA H1 hK1 hP1 hD1 hS1 => ?_)
  obtain ⟨_, _, _, _, _, e1⟩ := (hK1.2 6 (cA, .object "HighSpots$Condition") rfl).2
  obtain ⟨_, _, _, _, _, e2⟩ := (hK.2 5 _ rfl).2
  have e3 : cA = dA 5 := Option.some.inj (e1.symm.trans e2)
  subst e3
  exact (hG ..).mp (k q hm) H1 locs ls hP1 hD1 hS1 hl
theorem tm_putV (X : IsG G l cc nL own D dA fr lo mc ms) {C : String} {T0 : u_T} {N index ci f a : Nat} {ref : String} {fs : List Value} {v : Value} {ty : FieldType} (q : Nat) (he : w[q]? = some (a, .inr (ci, fs))) (hin : ∀ w ∈ u_ws C T0 N, w ∈ lw_all) (hc : vwCl[ci]? = some (C, T0, N)) (hk : f < N) (ty0 : Nat → FieldType) (hty : ∀ k, k < N → parseFieldDescriptor (T0 k).2.2.1 = some (ty0 k)) (hnm : ∀ a, a < N → ∀ b, b < N → a ≠ b → (T0 a).2.1 ≠ (T0 b).2.1) (hfin : (T0 f).2.2.2 = false) (hint : ty0 f = ty) (hn : narrow ty v = v) (hfit : fits ty v = true) (hl9 : f < fs.length) (hlk : Cond.fieldLink own index ref (T0 f).2.1 (T0 f).2.2.1 ∈ lw_all) (hsm : ref = (T0 f).1) (hd : decode cc pc = .ok (.putfield index, 3)) (hw : w.set q (a, .inr (ci, fs.set f v)) = w') (k : TM G res M w' ce sl (pc + 3) lv st) : TM G res M w ce sl pc lv (v :: .ref a :: st) := by
  obtain ⟨p, e, R, s, m, args, below, meth, c, Q, A, ⟨hx, hb, hml, hown, hts⟩, hK, hN, hA, hR, hG⟩ := X
  intro hm
  rw [hG]
  intro H locs ls hP hD hS hl
  exact va_put (ty := ty) hx hb hts hin ty0 hty hnm hown hK hP hD hS q he hc f hk (hts _ hlk) (fun _ h9 => by rw [hsm]; exact h9) hfin (by rw [hty f hk, hint]) hn hfit hl9 hd (fun H9 locs9 hP9 hD9 hS9 => (hG ..).mp (k hm) H9 locs9 ls (hw ▸ hP9) (hw ▸ hD9) hS9 hl)
theorem tm_putVN (X : IsG G l cc nL own D dA fr lo mc ms) {C : String} {T0 : u_T} {N index ci f a : Nat} {ref : String} {fs : List Value} {v : Value} {ty : FieldType} {host : String} (q : Nat) (he : w[q]? = some (a, .inr (ci, fs))) (hin : ∀ w ∈ u_ws C T0 N, w ∈ lw_all) (hc : vwCl[ci]? = some (C, T0, N)) (hk : f < N) (ty0 : Nat → FieldType) (hty : ∀ k, k < N → parseFieldDescriptor (T0 k).2.2.1 = some (ty0 k)) (hnm : ∀ a, a < N → ∀ b, b < N → a ≠ b → (T0 a).2.1 ≠ (T0 b).2.1) (hfin : (T0 f).2.2.2 = false) (hint : ty0 f = ty) (hn : narrow ty v = v) (hfit : fits ty v = true) (hl9 : f < fs.length) (hlk : Cond.fieldLinkNest own index ref (T0 f).2.1 (T0 f).2.2.1 host ∈ lw_tbl) (hsm : ref = (T0 f).1) (hd : decode cc pc = .ok (.putfield index, 3)) (hw : w.set q (a, .inr (ci, fs.set f v)) = w') (k : TM G res M w' ce sl (pc + 3) lv st) : TM G res M w ce sl pc lv (v :: .ref a :: st) := by
  obtain ⟨p, e, R, s, m, args, below, meth, c, Q, A, ⟨hx, hb, hml, hown, hts⟩, hK, hN, hA, hR, hG⟩ := X
  intro hm
  rw [hG]
  intro H locs ls hP hD hS hl
  exact va_putN (ty := ty) hx hb hts hin ty0 hty hnm hown hK hP hD hS q he hc f hk (va_Nw.use rfl (hN.1 _ hlk rfl)) (fun _ h9 => by rw [hsm]; exact h9) hfin (by rw [hty f hk, hint]) hn hfit hl9 hd (fun H9 locs9 hP9 hD9 hS9 => (hG ..).mp (k hm) H9 locs9 ls (hw ▸ hP9) (hw ▸ hD9) hS9 hl)
theorem tm_putF (X : IsGI G l cc nL own D dA fr lo mc ms) {C : String} {T0 : u_T} {N index ci f a : Nat} {ref : String} {fs : List Value} {v : Value} {ty : FieldType} (q : Nat) (he : w[q]? = some (a, .inr (ci, fs))) (hin : ∀ w ∈ u_ws C T0 N, w ∈ lw_all) (hc : vwCl[ci]? = some (C, T0, N)) (hk : f < N) (ty0 : Nat → FieldType) (hty : ∀ k, k < N → parseFieldDescriptor (T0 k).2.2.1 = some (ty0 k)) (hnm : ∀ a, a < N → ∀ b, b < N → a ≠ b → (T0 a).2.1 ≠ (T0 b).2.1) (hfin : (T0 f).2.2.2 = true) (hdecl : (T0 f).1 = own) (hint : ty0 f = ty) (hn : narrow ty v = v) (hfit : fits ty v = true) (hl9 : f < fs.length) (hlk : Cond.fieldLink own index ref (T0 f).2.1 (T0 f).2.2.1 ∈ lw_all) (hsm : ref = (T0 f).1) (hd : decode cc pc = .ok (.putfield index, 3)) (hw : w.set q (a, .inr (ci, fs.set f v)) = w') (k : TM G res M w' ce sl (pc + 3) lv st) : TM G res M w ce sl pc lv (v :: .ref a :: st) := by
  obtain ⟨p, e, R, s, m, args, below, meth, c, Q, A, ⟨hx, hb, hml, hown, hts⟩, hK, hN, hA, hR, hini9, hG⟩ := X
  intro hm
  rw [hG]
  intro H locs ls hP hD hS hl
  exact va_putF (ty := ty) hx hb hts hin ty0 hty hnm hown hK hP hD hS q he hc f hk (hts _ hlk) (fun _ h9 => by rw [hsm]; exact h9) hfin hini9 hdecl (by rw [hty f hk, hint]) hn hfit hl9 hd (fun H9 locs9 hP9 hD9 hS9 => (hG ..).mp (k hm) H9 locs9 ls (hw ▸ hP9) (hw ▸ hD9) hS9 hl)
theorem tm_getV (X : IsG G l cc nL own D dA fr lo mc ms) {C : String} {T0 : u_T} {N index ci f a : Nat} {ref : String} {fs : List Value} {v : Value} (q : Nat) (he : w[q]? = some (a, .inr (ci, fs))) (hin : ∀ w ∈ u_ws C T0 N, w ∈ lw_all) (hc : vwCl[ci]? = some (C, T0, N)) (hk : f < N) (hv : fs[f]? = some v) (hlk : Cond.fieldLink own index ref (T0 f).2.1 (T0 f).2.2.1 ∈ lw_all) (hsm : ref = (T0 f).1) (hd : decode cc pc = .ok (.getfield index, 3)) (k : TM G res M w ce sl (pc + 3) lv (v :: st)) : TM G res M w ce sl pc lv (.ref a :: st) := by
  obtain ⟨p, e, R, s, m, args, below, meth, c, Q, A, ⟨hx, hb, hml, hown, hts⟩, hK, hN, hA, hR, hG⟩ := X
  intro hm
  rw [hG]
  intro H locs ls hP hD hS hl
  exact va_get hx hb hts hin hown hK hP q he hc f hk (hts _ hlk) (fun _ h9 => by rw [hsm]; exact h9) hv hd ((hG ..).mp (k hm) H locs ls hP hD hS hl)
theorem tm_objInit (X : IsG G l cc nL own D dA fr lo mc ms) {index a : Nat} (hlk : Cond.methodLink own index Lib.objectInit ∈ lw_all) (hfr : 1 ≤ fr) (hlo : (st.map fun v => v.category).sum + 12 ≤ lo) (hd : decode cc pc = .ok (.invokespecial index, 3)) (k : TM G res M w ce sl (pc + 3) lv st) : TM G res M w ce sl pc lv (.ref a :: st) := by
  obtain ⟨p, e, R, s, m, args, below, meth, c, Q, A, ⟨hx, hb, hml, hown, hts⟩, hK, hN, hA, hR, hG⟩ := X
  intro hm
  rw [hG]
  intro H locs ls hP hD hS hl
  obtain ⟨h1, h2, h3, h4⟩ := hR
  exact W.objInit hx hb hown (hts _ hlk) (hts _ q147) (hts _ q148) rfl (by rw [hml]; exact hl.1) rfl hd (by rw [h1]; exact hfr) (by rw [h2]; show 2 * 0 + _ + 12 ≤ _; omega) ((hG ..).mp (k hm) H locs ls hP hD hS hl)
theorem tm_multi (X : IsG G l cc nL own D dA fr lo mc ms) {index : Nat} (hcl : Cond.classLink own index "[[I" ∈ lw_all) (hf : ce + 3 ≤ mc ∧ sl + 98 ≤ ms) (hd : decode cc pc = .ok (.multianewarray index 2, 4)) (k : ∀ q : Nat, TM G res M (w ++ [(q, .inl (dA 3, 2, .inr (.inr (.inr (.inr (fun i => some (q + 1 + i))))))), (q + 1, .inl (dA 0, 48, .inl (fun _ => 0))), (q + 2, .inl (dA 0, 48, .inl (fun _ => 0)))]) (ce + 3) (sl + 98) (pc + 4) lv (.ref q :: st)) : TM G res M w ce sl pc lv (.int 48 :: .int 2 :: st) := by
  obtain ⟨p, e, R, s, m, args, below, meth, c, Q, A, ⟨hx, hb, hml, hown, hts⟩, hK, hN, hA, hR, hG⟩ := X
  intro hm
  rw [hG]
  intro H locs ls hP hD hS hl
  obtain ⟨h1, h2, h3, h4⟩ := hR
  intro T hT Y
  obtain ⟨vm₁, cA, comp, hW1, hfA, hfC, -, -, X1, step⟩ := Y.multianewarray2F hx (own := own) (index := index) (ty := .int) hown (hts _ hcl) (hN.1 _ q177 rfl) (hts _ q169) (g := F0 m pc ls (.int 48 :: .int 2 :: st)) rfl (by rw [hb]; exact hd) (n := 2) (k := 48) (rest := st) rfl (by decide) (by decide) (by decide) (by decide) (by decide) rfl rfl (by rw [h3]; exact hf.1) (by rw [h4]; exact hf.2)
  obtain ⟨f1, f2, f3, f4⟩ := Jvm.Free.Multi.fill_facts (T.setVm vm₁) cA comp 2 48 (.int 0) 2
  have e1 : cA = dA 3 := Option.some.inj (hfA.symm.trans (hK.2 3 _ rfl).2)
  have e2 : comp = dA 0 := Option.some.inj (hfC.symm.trans (hK.2 0 _ rfl).2)
  subst e1
  subst e2
  have hsz : (T.setVm vm₁).heap.size = H.size := by show T.heap.size = _; rw [hT]
  generalize hT1 : Jvm.Free.Multi.fill (T.setVm vm₁) (dA 3) (dA 0) 2 48 (.int 0) 2 = T1 at *
  have hX1 : Stand p l e R s m args below meth c T1 locs (ce + 3) (sl + 98) := by rw [← hT1]; exact X1
  have old : ∀ q : Nat, q < H.size → T1.heap[q]? = H[q]? := fun q hq => by
    rw [← hT1, Jvm.Free.Multi.fill_old (T.setVm vm₁) (dA 3) (dA 0) 2 48 (.int 0) (by rw [hsz]; exact hq) 2]
    show T.heap[q]? = _
    rw [hT]
  have hout : T1.heap[H.size]? = some (vp_cell (dA 3) (2, .inr (.inr (.inr (.inr (fun i => some (H.size + 1 + i))))))) := by
    rw [← hsz, f2]
    obtain ⟨o1, o2, o3⟩ := Jvm.Free.Multi.outerC_facts (dA 3) 2 (T.setVm vm₁).heap.size 2
    congr 1
  have hin1 : T1.heap[H.size + 1]? = some (vp_cell (dA 0) (48, .inl (fun _ => 0))) := by
    rw [← hT1, ← hsz]
    exact Jvm.Free.Multi.fill_inner (T.setVm vm₁) (dA 3) (dA 0) 2 48 (.int 0) 2 0 (by decide)
  have hin2 : T1.heap[H.size + 2]? = some (vp_cell (dA 0) (48, .inl (fun _ => 0))) := by
    rw [← hT1, ← hsz]
    exact Jvm.Free.Multi.fill_inner (T.setVm vm₁) (dA 3) (dA 0) 2 48 (.int 0) 2 1 (by decide)
  have hs1 : T1.heap.size = H.size + 3 := by rw [f1, hsz]
  have hPn : va_P D vwCl (w ++ [(H.size, .inl (dA 3, 2, .inr (.inr (.inr (.inr (fun i => some (H.size + 1 + i))))))), (H.size + 1, .inl (dA 0, 48, .inl (fun _ => 0))), (H.size + 2, .inl (dA 0, 48, .inl (fun _ => 0)))]) T1.heap := by
    refine va_P.app (hP.kept (fun j x hj => old x.1 (hP j x hj).lt)) (fun j x hj => ?_)
    match j, hj with
    | 0, hj => cases hj; exact hout
    | 1, hj => cases hj; exact hin1
    | 2, hj => cases hj; exact hin2
    | j + 3, hj => cases hj
  have hDn : va_D A (w ++ [(H.size, .inl (dA 3, 2, .inr (.inr (.inr (.inr (fun i => some (H.size + 1 + i))))))), (H.size + 1, .inl (dA 0, 48, .inl (fun _ => 0))), (H.size + 2, .inl (dA 0, 48, .inl (fun _ => 0)))]) := by
    refine va_D.app hD ⟨fun i j x y hi hj hxy => ?_, fun j x hj => ?_⟩ (fun i j x y hi hj hxy => ?_)
    · match i, j, hi, hj with
      | 0, 0, hi, hj => rfl
      | 1, 1, hi, hj => rfl
      | 2, 2, hi, hj => rfl
      | 0, 1, hi, hj => cases hi; cases hj; simp at hxy
      | 0, 2, hi, hj => cases hi; cases hj; simp at hxy
      | 1, 0, hi, hj => cases hi; cases hj; simp at hxy
      | 1, 2, hi, hj => cases hi; cases hj; simp at hxy
      | 2, 0, hi, hj => cases hi; cases hj; simp at hxy
      | 2, 1, hi, hj => cases hi; cases hj; simp at hxy
      | i + 3, _, hi, hj => cases hi
      | _, j + 3, hi, hj => cases hj
    · match j, hj with
      | 0, hj => cases hj; exact hA _ hS.1
      | 1, hj => cases hj; exact hA _ (Nat.le_trans hS.1 (Nat.le_add_right _ _))
      | 2, hj => cases hj; exact hA _ (Nat.le_trans hS.1 (Nat.le_add_right _ _))
      | j + 3, hj => cases hj
    · have hlt := (hP i x hi).lt
      match j, hj with
      | 0, hj => cases hj; simp at hxy; omega
      | 1, hj => cases hj; simp at hxy; omega
      | 2, hj => cases hj; simp at hxy; omega
      | j + 3, hj => cases hj
  have hSn : va_S A s.heap T1.heap locs := by
    exact ⟨by have := hS.1; omega, fun q h1 h2 => (old q (Nat.lt_of_lt_of_le h1 hS.1)).trans (hS.2.1 q h1 h2), hS.2.2⟩
  obtain ⟨t, a1, b1⟩ := (hG ..).mp (k H.size hm) T1.heap locs ls hPn hDn hSn hl T1 rfl hX1
  refine ⟨t, step t ?_, b1⟩
  show Steps p.tables e below ((Jvm.Free.Multi.fill (T.setVm vm₁) (dA 3) (dA 0) 2 48 (.int 0) 2).setTop (F0 m (pc + 4) ls (.ref T.heap.size :: st))) t
  rw [hT1, hT]
  exact a1
theorem arrV_congr {cA : ClassId} {n : Nat} {f g : Nat → Value} (h : ∀ j, j < n → f j = g j) : arrV cA n f = arrV cA n g := by
  unfold arrV
  congr 1
  congr 1
  funext j
  exact h j.val j.isLt
theorem tm_aaCell (X : IsG G l cc nL own D dA fr lo mc ms) {q a n : Nat} {cA : ClassId} {f g : Nat → Option Nat} (he : w[q]? = some (a, .inl (cA, n, .inr (.inr (.inr (.inr f)))))) (hfg : ∀ j, j < n → f j = g j) (hw : w.set q (a, .inl (cA, n, .inr (.inr (.inr (.inr g))))) = w') (k : TM G res M w' ce sl pc lv st) : TM G res M w ce sl pc lv st := by
  obtain ⟨p, e, R, s, m, args, below, meth, c, Q, A, ⟨hx, hb, hml, hown, hts⟩, hK, hN, hA, hR, hG⟩ := X
  intro hm
  rw [hG]
  intro H locs ls hP hD hS hl
  have hat : va_at D vwCl (a, .inl (cA, n, .inr (.inr (.inr (.inr g))))) H := by
    have h0 := hP q _ he
    show H[a]? = some (vp_cell cA (n, .inr (.inr (.inr (.inr g)))))
    rw [vp_cell_q, ← arrV_congr (fun j hj => congrArg va_rf (hfg j hj)), ← vp_cell_q]
    exact h0
  exact (hG ..).mp (k hm) H locs ls (hw ▸ va_P.set hP hD he hat (fun _ _ => rfl)) (hw ▸ va_D.set hD he) hS hl
variable {y : MethodName} {bytes : ByteArray} {maxL : Nat} {fr1 lo1 mc1 ms1 : Nat} {As rest : List Value} {index b : Nat} {wr wc : va_W} {Post : Option Value → va_W → Prop} {ret : Option FieldType}
theorem tm_callIE {n : Nat} (X : IsG G l cc nL own D dA fr lo mc ms) (hC : CTE l y bytes maxL none D dA fr1 lo1 mc1 ms1 wc (.ref b :: As) Post) (hlk : Cond.methodLink own index y ∈ lw_all) (hins : Cond.instanceMethod y ∈ lw_all) (hini : Cond.initialized y.cls ∈ lw_all) (hcd : Cond.code y bytes maxL none ∈ lw_all) (hy1 : y.name = "<init>") (hcy : Callee y n) (hn : As.length = n) (hroom : fr1 + 1 ≤ fr ∧ 8 + (maxL + 11) + lo1 ≤ lo) (hcat : (rest.map fun v => v.category).sum ≤ 8) (hd : decode cc pc = .ok (.invokespecial index, 3)) (hf : ce + mc1 ≤ mc ∧ sl + ms1 ≤ ms) (hw : w = wr ++ wc) {st0 : List Value} (hst : st0 = As.reverse ++ .ref b :: rest) (k : ∀ (rv : Option Value) (wc' : va_W), Post rv wc' → TM G res M (wr ++ wc') (ce + mc1) (sl + ms1) (pc + 3) lv (rv.toList ++ rest)) : TM G res M w ce sl pc lv st0 := by
  obtain ⟨p, e, R, s, m, args, below, meth, c, Q, A, ⟨hx, hb, hml, hown, hts⟩, hK, hN, hA, ⟨h1, h2, h3, h4⟩, hG⟩ := X
  intro hm
  subst hw
  rw [hG]
  intro H locs ls hP hD hS hl
  have hF := va_A.of (wc := wc) hD hS.1 hA (fun x h => List.mem_append_right _ h)
  refine callBehindE (va_runI (As := As) (rest := rest) ⟨hx, hb, hml, hown, hts⟩ (hC H.size) (cwI n hts (lw_meth hcd) rfl rfl rfl (hts _ hini) (hts _ hlk) (hts _ hins) hy1 hcy ⟨by rw [h1]; exact hroom.1, by rw [h2]; exact hroom.2⟩) ⟨PCx.blind, PCx.at hK hN hS hF hP.right hD.right⟩ rfl hn hl.1 hst (lv_room hcat) hd ⟨by rw [h3]; exact hf.1, by rw [h4]; exact hf.2⟩) hS hF (fun rv wc' H1 locs1 hpo hP1 hD1 hz hk hS1 => ?_)
  obtain ⟨hP2, hD2⟩ := frameLast hP hD hk hF hP1 hD1
  exact (hG ..).mp (k rv wc' hpo hm) H1 locs1 ls hP2 hD2 hS1 hl
theorem tm_callINE {n : Nat} {host : String} (X : IsG G l cc nL own D dA fr lo mc ms) (hC : CTE l y bytes maxL none D dA fr1 lo1 mc1 ms1 wc (.ref b :: As) Post) (hlk : Cond.methodLinkNest own index y host ∈ lw_tbl) (hins : Cond.instanceMethod y ∈ lw_all) (hini : Cond.initialized y.cls ∈ lw_all) (hcd : Cond.code y bytes maxL none ∈ lw_all) (hy1 : y.name = "<init>") (hcy : Callee y n) (hn : As.length = n) (hroom : fr1 + 1 ≤ fr ∧ 8 + (maxL + 11) + lo1 ≤ lo) (hcat : (rest.map fun v => v.category).sum ≤ 8) (hd : decode cc pc = .ok (.invokespecial index, 3)) (hf : ce + mc1 ≤ mc ∧ sl + ms1 ≤ ms) (hw : w = wr ++ wc) {st0 : List Value} (hst : st0 = As.reverse ++ .ref b :: rest) (k : ∀ (rv : Option Value) (wc' : va_W), Post rv wc' → TM G res M (wr ++ wc') (ce + mc1) (sl + ms1) (pc + 3) lv (rv.toList ++ rest)) : TM G res M w ce sl pc lv st0 := by
  obtain ⟨p, e, R, s, m, args, below, meth, c, Q, A, ⟨hx, hb, hml, hown, hts⟩, hK, hN, hA, ⟨h1, h2, h3, h4⟩, hG⟩ := X
  intro hm
  subst hw
  rw [hG]
  intro H locs ls hP hD hS hl
  have hF := va_A.of (wc := wc) hD hS.1 hA (fun x h => List.mem_append_right _ h)
  refine callBehindE (va_runIN (As := As) (rest := rest) ⟨hx, hb, hml, hown, hts⟩ (hC H.size) ⟨va_cnB n hts (lw_meth hcd) rfl rfl rfl (hN.1 _ hlk rfl) (hts _ hini) hcy ⟨by rw [h1]; exact hroom.1, by rw [h2]; exact hroom.2⟩, hy1, hts _ hins⟩ ⟨PCx.blind, PCx.at hK hN hS hF hP.right hD.right⟩ rfl hn hl.1 hst (lv_room hcat) hd ⟨by rw [h3]; exact hf.1, by rw [h4]; exact hf.2⟩) hS hF (fun rv wc' H1 locs1 hpo hP1 hD1 hz hk hS1 => ?_)
  obtain ⟨hP2, hD2⟩ := frameLast hP hD hk hF hP1 hD1
  exact (hG ..).mp (k rv wc' hpo hm) H1 locs1 ls hP2 hD2 hS1 hl
end ALLOC2
