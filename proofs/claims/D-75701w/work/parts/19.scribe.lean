/-! objects with two fields of one name (this$0 of the parent and its own): apart by their owners; stores given 'apart' -/
set_option maxRecDepth 100000
theorem apartFF {args : Array Value} {s : State} {C O f d O' f' d' : String} (h : (Cond.laysFinal C O f d).before args s = true) (h' : (Cond.laysFinal C O' f' d').before args s = true)
    {cf kf fi fd cf' kf' fi' fd'} (hi : s.fieldFound? O f d = some (cf, kf, fi, fd)) (hi' : s.fieldFound? O' f' d' = some (cf', kf', fi', fd')) (hne : O ≠ O') : fd.slot ≠ fd'.slot := by
  obtain ⟨c1, k1, c1', k1', i1, f1, a1, a2, a3, a4, a5, a6, a7, a8, dd, a9, a10, a11, a12⟩ := Cond.laysFinal_spec h
  obtain ⟨c2, k2, c2', k2', i2, f2, b1, b2, b3, b4, b5, b6, b7, b8, dd', b9, b10, b11, b12⟩ := Cond.laysFinal_spec h'
  have e1 := hi.symm.trans a3
  have e2 := hi'.symm.trans b3
  simp only [Option.some.injEq, Prod.mk.injEq] at e1 e2
  obtain ⟨rfl, rfl, rfl, rfl⟩ := e1
  obtain ⟨rfl, rfl, rfl, rfl⟩ := e2
  intro hs
  rw [hs] at a9
  have ec : c1 = c2 := Option.some.inj (a1.symm.trans b1)
  subst ec
  have ed : dd = dd' := Option.some.inj (a9.symm.trans b9)
  subst ed
  obtain ⟨k3, g1, g2⟩ := Vm.findClass_spec a7
  obtain ⟨k4, g3, g4⟩ := Vm.findClass_spec b7
  have g5 := State.fieldFound?_class hi
  have g6 := State.fieldFound?_class hi'
  have e3 : k3 = kf := Option.some.inj (g1.symm.trans g5)
  have e4 : k4 = kf' := Option.some.inj (g3.symm.trans g6)
  rw [e3] at g2
  rw [e4] at g4
  exact hne (g2.symm.trans ((a10.symm.trans b10).trans g4))
/-- the fields' slots of class ci are apart -/
def Apart (D : va_G) (dA : Nat → ClassId) (ci N : Nat) : Prop := ∀ (args : Array Value) (s : State), (∀ w ∈ lw_all, w.before args s = true) → va_K D vwCl (tyA dA) s → ∀ x y, x < N → y < N → x ≠ y → (D.2 ci) x ≠ (D.2 ci) y
theorem apart16 (D : va_G) (dA : Nat → ClassId) : Apart D dA 12 9 := by
  intro args s hts hK x y hx hy hne
  obtain ⟨hS, -⟩ := hK.1 12 _ rfl
  obtain ⟨_, _, _, fa, hia, ea⟩ := hS x hx
  obtain ⟨_, _, _, fb, hib, eb⟩ := hS y hy
  rw [← ea, ← eb]
  by_cases hn : (TX16 x).2.1 = (TX16 y).2.1
  · have hxy : (x = 4 ∧ y = 8) ∨ (x = 8 ∧ y = 4) := by
      have : ∀ x : Fin 9, ∀ y : Fin 9, (TX16 x.val).2.1 = (TX16 y.val).2.1 → x.val = y.val ∨ (x.val = 4 ∧ y.val = 8) ∨ (x.val = 8 ∧ y.val = 4) := by decide +kernel
      rcases this ⟨x, hx⟩ ⟨y, hy⟩ hn with h | h
      · exact absurd h hne
      · exact h
    have l4 : (Cond.laysFinal RX16 (TX16 4).1 (TX16 4).2.1 (TX16 4).2.2.1).before args s = true := hts _ (in_X16 _ (u_in_lay (T := TX16) (k := 4) (by decide)))
    have l8 : (Cond.laysFinal RX16 (TX16 8).1 (TX16 8).2.1 (TX16 8).2.2.1).before args s = true := hts _ (in_X16 _ (u_in_lay (T := TX16) (k := 8) (by decide)))
    rcases hxy with ⟨rfl, rfl⟩ | ⟨rfl, rfl⟩
    · exact apartFF l4 l8 hia hib (by decide)
    · exact apartFF l8 l4 hia hib (by decide)
  · refine u_apart (u_lays hts in_X16 hx) (u_lays hts in_X16 hy) hia hib ?_
    rw [(State.fieldFound?_type hia (tyX16_ok x hx)).1, (State.fieldFound?_type hib (tyX16_ok y hy)).1]
    exact hn
theorem apart17 (D : va_G) (dA : Nat → ClassId) : Apart D dA 13 9 := by
  intro args s hts hK x y hx hy hne
  obtain ⟨hS, -⟩ := hK.1 13 _ rfl
  obtain ⟨_, _, _, fa, hia, ea⟩ := hS x hx
  obtain ⟨_, _, _, fb, hib, eb⟩ := hS y hy
  rw [← ea, ← eb]
  by_cases hn : (TX17 x).2.1 = (TX17 y).2.1
  · have hxy : (x = 4 ∧ y = 8) ∨ (x = 8 ∧ y = 4) := by
      have : ∀ x : Fin 9, ∀ y : Fin 9, (TX17 x.val).2.1 = (TX17 y.val).2.1 → x.val = y.val ∨ (x.val = 4 ∧ y.val = 8) ∨ (x.val = 8 ∧ y.val = 4) := by decide +kernel
      rcases this ⟨x, hx⟩ ⟨y, hy⟩ hn with h | h
      · exact absurd h hne
      · exact h
    have l4 : (Cond.laysFinal RX17 (TX17 4).1 (TX17 4).2.1 (TX17 4).2.2.1).before args s = true := hts _ (in_X17 _ (u_in_lay (T := TX17) (k := 4) (by decide)))
    have l8 : (Cond.laysFinal RX17 (TX17 8).1 (TX17 8).2.1 (TX17 8).2.2.1).before args s = true := hts _ (in_X17 _ (u_in_lay (T := TX17) (k := 8) (by decide)))
    rcases hxy with ⟨rfl, rfl⟩ | ⟨rfl, rfl⟩
    · exact apartFF l4 l8 hia hib (by decide)
    · exact apartFF l8 l4 hia hib (by decide)
  · refine u_apart (u_lays hts in_X17 hx) (u_lays hts in_X17 hy) hia hib ?_
    rw [(State.fieldFound?_type hia (tyX17_ok x hx)).1, (State.fieldFound?_type hib (tyX17_ok y hy)).1]
    exact hn
section PUTA
variable {p : Program} {l : Launch} {e : Env} {R : Room} {s : State} {m : MethodId} {args : Array Value} {below : List Frame} {meth : Method} {c : Code} {H : Heap} {locs : List Loc} {cells slots : Nat} {Q : State → Prop} {cc : ByteArray} {pc : Nat} {ls : Array Slot} {rest : List Value} {D : va_G} {cl : List vw_C} {A : Nat → Prop} {a : Nat} {tys : List (ClassId × FieldType)} {ws : va_W} {H0 : Heap}
theorem va_putA (hexec : p.tables.exec = Jvm.exec) (hb : c.code = cc) {own ref C : String} {T : u_T} {N ci index : Nat} {Ts : List Cond} (hts : ∀ w ∈ Ts, w.before args s = true) (hin : ∀ w ∈ u_ws C T N, w ∈ Ts) (hap : ∀ x y, x < N → y < N → x ≠ y → (D.2 ci) x ≠ (D.2 ci) y) (hown : s.vm.findClass own = some m.cls) (hK : va_K D cl tys s) (hP : va_P D cl ws H) (hD : va_D A ws) (hS0 : va_S A H0 H locs) (q0 : Nat) {fs : List Value} (he : ws[q0]? = some (a, .inr (ci, fs))) (hc : cl[ci]? = some (C, T, N)) (k : Nat) (hk : k < N) (hlink : (Cond.fieldLink own index ref (T k).2.1 (T k).2.2.1).before args s = true) (hsame : ∀ x, s.fieldFound? (T k).1 (T k).2.1 (T k).2.2.1 = some x → s.fieldFound? ref (T k).2.1 (T k).2.2.1 = some x) (hfin : (T k).2.2.2 = false) {ty : FieldType} {v : Value} (hd : parseFieldDescriptor (T k).2.2.1 = some ty) (hn : narrow ty v = v) (hfit : fits ty v = true) (hl : k < fs.length)
    (hdg : decode cc pc = .ok (.putfield index, 3)) (kk : ∀ (H1 : Heap) (locs1 : List Loc), va_P D cl (ws.set q0 (a, .inr (ci, fs.set k v))) H1 → va_D A (ws.set q0 (a, .inr (ci, fs.set k v))) → va_S A H0 H1 locs1 → W p l e R s m args below meth c H1 locs1 cells slots Q (F0 m (pc + 3) ls rest)) : W p l e R s m args below meth c H locs cells slots Q (F0 m pc ls (v :: .ref a :: rest)) := by
  obtain ⟨r, h1, cell, q1, q2, q3, q4⟩ := hP q0 _ he
  have hr : r = (C, T, N) := Option.some.inj (h1.symm.trans hc)
  subst hr
  obtain ⟨hS, hfc, kC, hkC, hkind⟩ := hK.1 ci _ hc
  obtain ⟨cf, kf, fi, f, hi, hsl⟩ := hS k hk
  have hlay := hts _ (hin _ (u_in_lay hk))
  unfold u_lay at hlay
  rw [if_neg (by rw [hfin]; decide)] at hlay
  have hst := (u_facts hfc hkC (u_lays hts hin hk) hi).1
  have h6 := u_store hfc hkC hkind hlay hi hd hn hfit
  refine W.putK hexec hb (f := f) ⟨hown, hlink, ⟨_, _, _, hsame _ hi⟩, hst⟩ (by rw [q2]; exact h6) q1 q3 (by rw [hsl]; exact k2_hasslot (q4 k hk)) rfl rfl hdg fun H' e1 e2 e3 => ?_
  rw [hsl] at e1 ⊢
  exact kk H' _ (hP.set hD he ⟨_, hc, t_OB.to (V := updV (vp_V fs) k v) ⟨_, e1, q2, q3, t_set q4 hap hk v⟩ (fun j _ => vp_updV_set hl v j)⟩ e3) (hD.set he) (hS0.put e2 e3 (hD.2 q0 _ he))
theorem va_putFA (hexec : p.tables.exec = Jvm.exec) (hb : c.code = cc) {own ref C : String} {T : u_T} {N ci index : Nat} {Ts : List Cond} (hts : ∀ w ∈ Ts, w.before args s = true) (hin : ∀ w ∈ u_ws C T N, w ∈ Ts) (hap : ∀ x y, x < N → y < N → x ≠ y → (D.2 ci) x ≠ (D.2 ci) y) (hown : s.vm.findClass own = some m.cls) (hK : va_K D cl tys s) (hP : va_P D cl ws H) (hD : va_D A ws) (hS0 : va_S A H0 H locs) (q0 : Nat) {fs : List Value} (he : ws[q0]? = some (a, .inr (ci, fs))) (hc : cl[ci]? = some (C, T, N)) (k : Nat) (hk : k < N) (hlink : (Cond.fieldLink own index ref (T k).2.1 (T k).2.2.1).before args s = true) (hsame : ∀ x, s.fieldFound? (T k).1 (T k).2.1 (T k).2.2.1 = some x → s.fieldFound? ref (T k).2.1 (T k).2.2.1 = some x) (hfin : (T k).2.2.2 = true) (hin2 : meth.name = "<init>") (hdecl : (T k).1 = own) {ty : FieldType} {v : Value} (hd : parseFieldDescriptor (T k).2.2.1 = some ty) (hn : narrow ty v = v) (hfit : fits ty v = true) (hl : k < fs.length)
    (hdg : decode cc pc = .ok (.putfield index, 3)) (kk : ∀ (H1 : Heap) (locs1 : List Loc), va_P D cl (ws.set q0 (a, .inr (ci, fs.set k v))) H1 → va_D A (ws.set q0 (a, .inr (ci, fs.set k v))) → va_S A H0 H1 locs1 → W p l e R s m args below meth c H1 locs1 cells slots Q (F0 m (pc + 3) ls rest)) : W p l e R s m args below meth c H locs cells slots Q (F0 m pc ls (v :: .ref a :: rest)) := by
  obtain ⟨r, h1, cell, q1, q2, q3, q4⟩ := hP q0 _ he
  have hr : r = (C, T, N) := Option.some.inj (h1.symm.trans hc)
  subst hr
  obtain ⟨hS, hfc, kC, hkC, hkind⟩ := hK.1 ci _ hc
  obtain ⟨cf, kf, fi, f, hi, hsl⟩ := hS k hk
  have hlay := hts _ (hin _ (u_in_lay hk))
  unfold u_lay at hlay
  rw [if_pos hfin] at hlay
  have hst := (u_facts hfc hkC (u_lays hts hin hk) hi).1
  have hcf : m.cls = cf := by
    obtain ⟨_, _, c', _, _, _, -, -, hf', -, -, -, hown2, -⟩ := Cond.laysFinal_spec hlay
    have e1 : c' = cf := by have := hi.symm.trans hf'; simp at this; exact this.1.symm
    rw [hdecl] at hown2
    rw [← e1]; exact Option.some.inj (hown.symm.trans hown2)
  have h6 := u_fits hfc hkC hkind (Or.inr hlay) hi hd hn hfit
  refine W.putFinK hexec hb hown hlink (hsame _ hi) hst hcf hin2 (by rw [q2]; exact h6) q1 q3 (by rw [hsl]; exact k2_hasslot (q4 k hk)) rfl rfl hdg fun H' e1 e2 e3 => ?_
  rw [hsl] at e1 ⊢
  exact kk H' _ (hP.set hD he ⟨_, hc, t_OB.to (V := updV (vp_V fs) k v) ⟨_, e1, q2, q3, t_set q4 hap hk v⟩ (fun j _ => vp_updV_set hl v j)⟩ e3) (hD.set he) (hS0.put e2 e3 (hD.2 q0 _ he))
end PUTA
