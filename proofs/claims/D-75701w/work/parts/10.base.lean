/-! THE WALK'S OWN LAYER: pure heaps, mirrors, the judgement TM, one row an instruction -/
set_option maxRecDepth 100000
abbrev Hp : Type := Nat → Nat → Int32
/-- one cell of a pure heap changes -/
def u2 (h : Hp) (k i : Nat) (v : Int32) : Hp := fun q => if q = k then upd (h k) i v else h q
/-- a name in a mirror -/
def nm {α : Type} {β : Type} (v : α) (f : α → β) : β := f v
/-- a loop in a mirror: the n-th round of F over b -/
def fx {τ : Type} : Nat → τ → (τ → τ) → τ
  | 0, b, _ => b
  | n + 1, b, F => F (fx n b F)
def FU : Nat := 100000
/-- the JVM's remainder -/
def jrem (x y : Int32) : Int32 := x - x / y * y
/-- an index in range, or nothing -/
def ck {ρ : Type} (i : Int32) (n : Nat) (M : Option ρ) : Option ρ := if i < 0 ∨ n ≤ i.toNatClampNeg then none else M
/-- a divisor that isn't nought, or nothing -/
def nz {ρ : Type} (y : Int32) (M : Option ρ) : Option ρ := if y = 0 then none else M
/-- a boolean that is 0 or 1, or nothing -/
def bz {ρ : Type} (v : Int32) (M : Option ρ) : Option ρ := if v = 0 ∨ v = 1 then M else none
/-- a call in a mirror -/
def cl1 {α ρ : Type} (M : Option α) (f : α → Option ρ) : Option ρ := match M with
  | none => none
  | some a => f a
def cl2 {α β ρ : Type} (M : Option (α × β)) (f : α → β → Option ρ) : Option ρ := match M with
  | none => none
  | some (a, b) => f a b
theorem fx_P {τ : Type} {b : τ} {F : τ → τ} (P : τ → Prop) (hb : P b) (hF : ∀ k, P k → P (F k)) : ∀ n, P (fx n b F)
  | 0 => hb
  | n + 1 => hF _ (fx_P P hb hF n)
/-- the classes of all objects -/
abbrev vwCl : List vw_C := [(RX0, TX0, 21), (RX2, TX2, 2), (RX3, TX3, 6), (RX4, TX4, 4), (RX5, TX5, 57), (RX6, TX6, 7), (RX8, TX8, 3), (RX9, TX9, 1), (RX10, TX10, 1), (RX12, TX12, 3), (RX13, TX13, 1), (RX14, TX14, 3), (RX16, TX16, 9), (RX17, TX17, 9)]
/-- the classes of all arrays: int, boolean, byte, int[], Sum, Condition -/
abbrev tyA (dA : Nat → ClassId) : List (ClassId × FieldType) := [(dA 0, .int), (dA 1, .boolean), (dA 2, .byte), (dA 3, .array .int), (dA 4, .object "HighSpots$Sum"), (dA 5, .object "HighSpots$Condition")]
theorem AOi.moved {u U : State} (hvm : u.vm.Alike U.vm) (h : (Cond.arrayOver (.array .int)).before #[] u = true) : (Cond.arrayOver (.array .int)).before #[] U = true := by
  have h0 : (Cond.arrayOver (.array .int)).holds #[] u none u [] = true := h
  simp only [Cond.holds, Cond.value, beq_iff_eq] at h0
  cases hc : u.vm.findClass (FieldType.array .int).toString with
  | none => simp [hc] at h0
  | some comp =>
    simp only [hc, Option.bind_some, Option.bind_eq_some_iff, Option.map_eq_some_iff] at h0
    obtain ⟨c, hi, k, hk, hb⟩ := h0
    obtain ⟨k', hk', he⟩ := hvm.2.2 _ _ hk
    have e1 := va_idx_bare U.vm comp
    have e2 := va_idx_bare u.vm comp
    first | rw [hvm.bare_eq] at e1 | rw [← hvm.bare_eq] at e1
    have hi' := (e1.symm.trans e2).trans hi
    have f1 : U.vm.findClass (FieldType.array .int).toString = some comp := by rw [hvm.findClass]; exact hc
    show (Cond.arrayOver (.array .int)).holds #[] U none U [] = true
    simp only [Cond.holds, Cond.value, beq_iff_eq]
    rw [f1, Option.bind_some]
    refine (congrArg (fun o : Option Nat => o.bind _) hi').trans ?_
    rw [Option.bind_some, hk', Option.map_some, ← hb]
    rw [hvm.findClass, he]
/-- words that don't ride in the lists: nest mates, castable, declares, arrays -/
def nwOk : Cond → Bool
  | .fieldLinkNest .. => true
  | .methodLinkNest .. => true
  | .castable .. => true
  | .declares .. => true
  | .arrayOver (.object _) => true
  | .arrayOver (.array .int) => true
  | _ => false
def KN (U : State) : Prop := ∀ w ∈ lw_tbl, nwOk w = true → va_Nw w U
theorem KN.warm {s U : State} (hW : s.WarmedH U.vm) (h : KN s) : KN U := by
  intro w hw hk
  have h1 := h w hw hk
  unfold nwOk at hk
  split at hk
  · exact va_Nw.warmF hW h1
  · exact va_Nw.warmM hW h1
  · exact va_Nw.warmC hW h1
  · exact va_Nw.warmD hW h1
  · exact va_AO.moved hW.alike h1
  · exact AOi.moved hW.alike h1
  · cases hk
theorem KN.same {u U : State} (hv : u.vm = U.vm) (h : KN u) : KN U := by
  intro w hw hk
  have h1 := h w hw hk
  unfold nwOk at hk
  split at hk
  · exact va_Nw.same rfl hv h1
  · exact va_Nw.same rfl hv h1
  · exact va_Nw.same rfl hv h1
  · exact va_Nw.same rfl hv h1
  · exact va_AO.moved (hv ▸ Vm.Alike.refl u.vm) h1
  · exact AOi.moved (hv ▸ Vm.Alike.refl u.vm) h1
  · cases hk
/-- the text constants: vyx, ulceabhktw, lrfb. ; their addresses are dA 10, 11, 12, of their bytes dA 20, 21, 22 -/
def lenS : List Nat := [3, 10, 5]
def bytS : List (List Int32) := [[118, 121, 120], [117, 108, 99, 101, 97, 98, 104, 107, 116, 119], [108, 114, 102, 98, 46]]
def SK (dA : Nat → ClassId) (A : Nat → Prop) (U : State) (H : Heap) : Prop := vk_S 3 lenS bytS (fun i => dA (10 + i)) (fun i => dA (20 + i)) A U H ∧ vk_R "HighSpots$Reader" 129 "vyx" (dA 10) U ∧ vk_R "HighSpots$Reader" 75 "ulceabhktw" (dA 11) U ∧ vk_R "HighSpots$Guide" 52 "lrfb." (dA 12) U ∧ va_Z "java/lang/String" "COMPACT_STRINGS" "Z" (.int 1) A U H
theorem SK.warm {dA : Nat → ClassId} {A B : Nat → Prop} {s U : State} {H H1 : Heap} (hW : s.WarmedH U.vm) (h : SK dA A s H) (hq : ∀ a : Nat, a < H.size → ¬ A a → H1[a]? = H[a]?) (hAB : ∀ q, B q → A q) : SK dA B U H1 :=
  ⟨((h.1.moved hW.alike).kept hq).narrow hAB, h.2.1.warm hW, h.2.2.1.warm hW, h.2.2.2.1.warm hW, ((h.2.2.2.2.moved hW.alike).kept hq).narrow hAB⟩
theorem SK.same {dA : Nat → ClassId} {A : Nat → Prop} {u U : State} {H : Heap} (hv : U.vm = u.vm) (h : SK dA A u H) : SK dA A U H :=
  ⟨h.1.moved (hv ▸ Vm.Alike.refl U.vm), h.2.1.same hv, h.2.2.1.same hv, h.2.2.2.1.same hv, h.2.2.2.2.moved (hv ▸ Vm.Alike.refl U.vm)⟩
/-- a frame's judgement: the world, the cells and slots made so far, the pc, the locals, the stack -/
abbrev Gty : Type := va_W → Nat → Nat → Nat → List (Nat × Value) → List Value → Prop
def IsG (G : Gty) (l : Launch) (cc : ByteArray) (nL : Nat) (own : String) (D : va_G) (dA : Nat → ClassId) (fr lo mc ms : Nat) : Prop :=
  ∃ (p : Program) (e : Env) (R : Room) (s : State) (m : MethodId) (args : Array Value) (below : List Frame) (meth : Method) (c : Code) (Q : State → Prop) (A : Nat → Prop),
    (p.tables.exec = Jvm.exec ∧ c.code = cc ∧ c.maxLocals = nL ∧ s.vm.findClass own = some m.cls ∧ (∀ w ∈ lw_all, w.before args s = true)) ∧ va_K D vwCl (tyA dA) s ∧ (KN s ∧ SK dA A s s.heap) ∧ (∀ q : Nat, s.heap.size ≤ q → A q) ∧ (R.frames = fr ∧ R.locals = lo ∧ R.cells = mc ∧ R.slots = ms) ∧
    ∀ w ce sl pc lv st, G w ce sl pc lv st ↔ ∀ (H : Heap) (locs : List Loc) (ls : Array Slot), va_P D vwCl w H → va_D A w → va_S A s.heap H locs → lv_has ls nL lv → W p l e R s m args below meth c H locs ce sl Q (F0 m pc ls st)
def TM {ρ : Type} (G : Gty) (res : ρ) (M : Option ρ) (w : va_W) (ce sl pc : Nat) (lv : List (Nat × Value)) (st : List Value) : Prop := M = some res → G w ce sl pc lv st
section ROWS
variable {G : Gty} {l : Launch} {cc : ByteArray} {nL : Nat} {own : String} {D : va_G} {dA : Nat → ClassId} {fr lo mc ms : Nat} {ρ : Type} {res : ρ} {M : Option ρ} {w : va_W} {ce sl pc : Nat} {lv : List (Nat × Value)} {st : List Value}
theorem tm_none : TM G res (none : Option ρ) w ce sl pc lv st := fun h => by cases h
theorem tm_nm {α : Type} {v : α} {E : α → Option ρ} (k : TM G res (E v) w ce sl pc lv st) : TM G res (nm v E) w ce sl pc lv st := k
theorem tm_let {τ : Type} {E : τ} {F : τ → Option ρ} (P : τ → Prop) (hE : P E) (hF : ∀ k, P k → TM G res (F k) w ce sl pc lv st) : TM G res (nm E F) w ce sl pc lv st := hF E hE
theorem tm_iconst (X : IsG G l cc nL own D dA fr lo mc ms) {n : Int} (v : Int32) (hd : decode cc pc = .ok (.iconst n, 1)) (hv : Int32.ofInt n = v) (k : TM G res M w ce sl (pc + 1) lv (.int v :: st)) : TM G res M w ce sl pc lv st := by
  obtain ⟨p, e, R, s, m, args, below, meth, c, Q, A, ⟨hx, hb, hml, hown, hts⟩, hK, hN, hA, hR, hG⟩ := X
  intro hm
  rw [hG]
  intro H locs ls hP hD hS hl
  exact lv_iconst hx hb hd hv ((hG ..).mp (k hm) H locs ls hP hD hS hl)
theorem tm_bipush (X : IsG G l cc nL own D dA fr lo mc ms) {n : Int} (v : Int32) (hd : decode cc pc = .ok (.bipush n, 2)) (hv : (Int8.ofInt n).toInt32 = v) (k : TM G res M w ce sl (pc + 2) lv (.int v :: st)) : TM G res M w ce sl pc lv st := by
  obtain ⟨p, e, R, s, m, args, below, meth, c, Q, A, ⟨hx, hb, hml, hown, hts⟩, hK, hN, hA, hR, hG⟩ := X
  intro hm
  rw [hG]
  intro H locs ls hP hD hS hl
  exact lv_bipush hx hb hd hv ((hG ..).mp (k hm) H locs ls hP hD hS hl)
theorem tm_sipush (X : IsG G l cc nL own D dA fr lo mc ms) {n : Int} (v : Int32) (hd : decode cc pc = .ok (.sipush n, 3)) (hv : (Int16.ofInt n).toInt32 = v) (k : TM G res M w ce sl (pc + 3) lv (.int v :: st)) : TM G res M w ce sl pc lv st := by
  obtain ⟨p, e, R, s, m, args, below, meth, c, Q, A, ⟨hx, hb, hml, hown, hts⟩, hK, hN, hA, hR, hG⟩ := X
  intro hm
  rw [hG]
  intro H locs ls hP hD hS hl
  exact lv_sipush hx hb hd hv ((hG ..).mp (k hm) H locs ls hP hD hS hl)
theorem tm_ldc (X : IsG G l cc nL own D dA fr lo mc ms) {index : Nat} (v : Int32) (hc : Jvm.Cond.constant own index v ∈ lw_all) (hd : decode cc pc = .ok (.ldc index, 2)) (k : TM G res M w ce sl (pc + 2) lv (.int v :: st)) : TM G res M w ce sl pc lv st := by
  obtain ⟨p, e, R, s, m, args, below, meth, c, Q, A, ⟨hx, hb, hml, hown, hts⟩, hK, hN, hA, hR, hG⟩ := X
  intro hm
  rw [hG]
  intro H locs ls hP hD hS hl
  exact lv_ldc hx hb hown (hts _ hc) hd ((hG ..).mp (k hm) H locs ls hP hD hS hl)
theorem tm_iload (X : IsG G l cc nL own D dA fr lo mc ms) {i : Nat} {x : Int32} (j : Nat) (hd : decode cc pc = .ok (.iload i, 2)) (hj : lv[j]? = some (i, .int x)) (k : TM G res M w ce sl (pc + 2) lv (.int x :: st)) : TM G res M w ce sl pc lv st := by
  obtain ⟨p, e, R, s, m, args, below, meth, c, Q, A, ⟨hx, hb, hml, hown, hts⟩, hK, hN, hA, hR, hG⟩ := X
  intro hm
  rw [hG]
  intro H locs ls hP hD hS hl
  exact lv_iload hx hb hd (lv_at hl j hj) ((hG ..).mp (k hm) H locs ls hP hD hS hl)
theorem tm_iload_n (X : IsG G l cc nL own D dA fr lo mc ms) {i : Fin 4} {i0 : Nat} {x : Int32} (j : Nat) (hd : decode cc pc = .ok (.iload_n i, 1)) (hi : (i : Nat) = i0) (hj : lv[j]? = some (i0, .int x)) (k : TM G res M w ce sl (pc + 1) lv (.int x :: st)) : TM G res M w ce sl pc lv st := by
  obtain ⟨p, e, R, s, m, args, below, meth, c, Q, A, ⟨hx, hb, hml, hown, hts⟩, hK, hN, hA, hR, hG⟩ := X
  intro hm
  rw [hG]
  intro H locs ls hP hD hS hl
  exact lv_iload_n hx hb hd hi (lv_at hl j hj) ((hG ..).mp (k hm) H locs ls hP hD hS hl)
theorem tm_aload (X : IsG G l cc nL own D dA fr lo mc ms) {i : Nat} {x : Nat} (j : Nat) (hd : decode cc pc = .ok (.aload i, 2)) (hj : lv[j]? = some (i, .ref x)) (k : TM G res M w ce sl (pc + 2) lv (.ref x :: st)) : TM G res M w ce sl pc lv st := by
  obtain ⟨p, e, R, s, m, args, below, meth, c, Q, A, ⟨hx, hb, hml, hown, hts⟩, hK, hN, hA, hR, hG⟩ := X
  intro hm
  rw [hG]
  intro H locs ls hP hD hS hl
  exact lv_aload hx hb hd (lv_at hl j hj) ((hG ..).mp (k hm) H locs ls hP hD hS hl)
theorem tm_aload_n (X : IsG G l cc nL own D dA fr lo mc ms) {i : Fin 4} {i0 : Nat} {x : Nat} (j : Nat) (hd : decode cc pc = .ok (.aload_n i, 1)) (hi : (i : Nat) = i0) (hj : lv[j]? = some (i0, .ref x)) (k : TM G res M w ce sl (pc + 1) lv (.ref x :: st)) : TM G res M w ce sl pc lv st := by
  obtain ⟨p, e, R, s, m, args, below, meth, c, Q, A, ⟨hx, hb, hml, hown, hts⟩, hK, hN, hA, hR, hG⟩ := X
  intro hm
  rw [hG]
  intro H locs ls hP hD hS hl
  exact lv_aload_n hx hb hd hi (lv_at hl j hj) ((hG ..).mp (k hm) H locs ls hP hD hS hl)
theorem tm_istore (X : IsG G l cc nL own D dA fr lo mc ms) {i : Nat} {x : Int32} (lv' : List (Nat × Value)) (hd : decode cc pc = .ok (.istore i, 2)) (hn : i < nL) (hl' : (i, Value.int x) :: lv.filter (fun q => !(q.1 == i) && !(q.1 + 1 == i && q.2.category == 2)) = lv') (k : TM G res M w ce sl (pc + 2) lv' st) : TM G res M w ce sl pc lv (.int x :: st) := by
  obtain ⟨p, e, R, s, m, args, below, meth, c, Q, A, ⟨hx, hb, hml, hown, hts⟩, hK, hN, hA, hR, hG⟩ := X
  intro hm
  rw [hG]
  intro H locs ls hP hD hS hl
  exact lv_istore hx hb hd hl hn hl' (fun ls' hl9 => (hG ..).mp (k hm) H locs ls' hP hD hS hl9)
theorem tm_istore_n (X : IsG G l cc nL own D dA fr lo mc ms) {i : Fin 4} {i0 : Nat} {x : Int32} (lv' : List (Nat × Value)) (hd : decode cc pc = .ok (.istore_n i, 1)) (hi : (i : Nat) = i0) (hn : i0 < nL) (hl' : (i0, Value.int x) :: lv.filter (fun q => !(q.1 == i0) && !(q.1 + 1 == i0 && q.2.category == 2)) = lv') (k : TM G res M w ce sl (pc + 1) lv' st) : TM G res M w ce sl pc lv (.int x :: st) := by
  obtain ⟨p, e, R, s, m, args, below, meth, c, Q, A, ⟨hx, hb, hml, hown, hts⟩, hK, hN, hA, hR, hG⟩ := X
  intro hm
  rw [hG]
  intro H locs ls hP hD hS hl
  exact lv_istore_n hx hb hd hi hl hn hl' (fun ls' hl9 => (hG ..).mp (k hm) H locs ls' hP hD hS hl9)
theorem tm_astore_n (X : IsG G l cc nL own D dA fr lo mc ms) {i : Fin 4} {i0 : Nat} {x : Nat} (lv' : List (Nat × Value)) (hd : decode cc pc = .ok (.astore_n i, 1)) (hi : (i : Nat) = i0) (hn : i0 < nL) (hl' : (i0, Value.ref x) :: lv.filter (fun q => !(q.1 == i0) && !(q.1 + 1 == i0 && q.2.category == 2)) = lv') (k : TM G res M w ce sl (pc + 1) lv' st) : TM G res M w ce sl pc lv (.ref x :: st) := by
  obtain ⟨p, e, R, s, m, args, below, meth, c, Q, A, ⟨hx, hb, hml, hown, hts⟩, hK, hN, hA, hR, hG⟩ := X
  intro hm
  rw [hG]
  intro H locs ls hP hD hS hl
  exact lv_astore_n hx hb hd hi hl hn hl' (fun ls' hl9 => (hG ..).mp (k hm) H locs ls' hP hD hS hl9)
theorem tm_astore (X : IsG G l cc nL own D dA fr lo mc ms) {i : Nat} {x : Nat} (lv' : List (Nat × Value)) (hd : decode cc pc = .ok (.astore i, 2)) (hn : i < nL) (hl' : (i, Value.ref x) :: lv.filter (fun q => !(q.1 == i) && !(q.1 + 1 == i && q.2.category == 2)) = lv') (k : TM G res M w ce sl (pc + 2) lv' st) : TM G res M w ce sl pc lv (.ref x :: st) := by
  obtain ⟨p, e, R, s, m, args, below, meth, c, Q, A, ⟨hx, hb, hml, hown, hts⟩, hK, hN, hA, hR, hG⟩ := X
  intro hm
  rw [hG]
  intro H locs ls hP hD hS hl
  exact lv_astore hx hb hd hl hn hl' (fun ls' hl9 => (hG ..).mp (k hm) H locs ls' hP hD hS hl9)
/-- the locals' list: fewer, in another order -/
theorem tm_lv (X : IsG G l cc nL own D dA fr lo mc ms) (ks : List Nat) {lv' : List (Nat × Value)} (hl' : lv_pick lv ks = lv') (k : TM G res M w ce sl pc lv' st) : TM G res M w ce sl pc lv st := by
  obtain ⟨p, e, R, s, m, args, below, meth, c, Q, A, ⟨hx, hb, hml, hown, hts⟩, hK, hN, hA, hR, hG⟩ := X
  intro hm
  rw [hG]
  intro H locs ls hP hD hS hl
  exact (hG ..).mp (k hm) H locs ls hP hD hS (lv_sub hl ks hl')
theorem tm_widen (X : IsG G l cc nL own D dA fr lo mc ms) {ce' sl' : Nat} (h1 : ce ≤ ce') (h2 : sl ≤ sl') (k : TM G res M w ce' sl' pc lv st) : TM G res M w ce sl pc lv st := by
  obtain ⟨p, e, R, s, m, args, below, meth, c, Q, A, ⟨hx, hb, hml, hown, hts⟩, hK, hN, hA, hR, hG⟩ := X
  intro hm
  rw [hG]
  intro H locs ls hP hD hS hl
  exact W.widen h1 h2 ((hG ..).mp (k hm) H locs ls hP hD hS hl)
theorem tm_iinc (X : IsG G l cc nL own D dA fr lo mc ms) {i : Nat} {n : Int} {x v : Int32} (j : Nat) (lv' : List (Nat × Value)) (hd : decode cc pc = .ok (.iinc i n, 3)) (hj : lv[j]? = some (i, .int x)) (hv : Int32.ofInt n = v) (hn : i < nL) (hl' : (i, Value.int (x + v)) :: lv.filter (fun q => !(q.1 == i) && !(q.1 + 1 == i && q.2.category == 2)) = lv') (k : TM G res M w ce sl (pc + 3) lv' st) : TM G res M w ce sl pc lv st := by
  obtain ⟨p, e, R, s, m, args, below, meth, c, Q, A, ⟨hx, hb, hml, hown, hts⟩, hK, hN, hA, hR, hG⟩ := X
  intro hm
  rw [hG]
  intro H locs ls hP hD hS hl
  exact lv_iinc hx hb hd hl hj (by rw [hv]) hn hl' (fun ls' hl9 => (hG ..).mp (k hm) H locs ls' hP hD hS hl9)
end ROWS
