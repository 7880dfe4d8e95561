set_option maxRecDepth 100000
/-- a node of the pool by its address: its class's number, its fields -/
def ndl (tp : va_W) (a : Nat) : Option (Nat × List Value) := match tp.find? (fun q => q.1 == a) with
  | some (_, .inr o) => some o
  | _ => none
theorem ndl_mem {tp : va_W} {a : Nat} {o : Nat × List Value} (h : ndl tp a = some o) : (a, .inr o) ∈ tp := by
  unfold ndl at h
  split at h
  · rename_i b o' he
    cases h
    have h1 := List.mem_of_find?_eq_some he
    have h2 := List.find?_some he
    simp only [beq_iff_eq] at h2
    rw [← h2]
    exact h1
  · cases h
theorem wX_node {ad : Nat → Nat} {dA : Nat → ClassId} {tt : (Nat → Option Nat) × (Nat → Option Nat) × va_W} {a : Nat} {o : Nat × List Value} (h : Hp) (hn : ndl tt.2.2 a = some o) : ∃ q : Nat, (wX ad dA tt h)[q]? = some (a, (.inr o : va_E)) := by
  have h1 : (a, (.inr o : va_E)) ∈ wX ad dA tt h := List.mem_append_right _ (ndl_mem hn)
  exact List.getElem?_of_mem h1
def ndNum (tp : va_W) (a : Nat) : Option Int32 := match ndl tp a with
  | some (7, [.int n]) => some n
  | _ => none
def ndLet (tp : va_W) (a : Nat) : Option Int32 := match ndl tp a with
  | some (8, [.int n]) => some n
  | _ => none
def ndRow (tp : va_W) (a : Nat) : Option (Int32 × Nat × Option Nat) := match ndl tp a with
  | some (6, [.int s, .ref p, .null]) => some (s, p, none)
  | some (6, [.int s, .ref p, .ref n]) => some (s, p, some n)
  | _ => none
def ndSome (tp : va_W) (a : Nat) : Option (Nat × Int32 × Option Nat) := match ndl tp a with
  | some (9, [.ref p, .int s, .null]) => some (p, s, none)
  | some (9, [.ref p, .int s, .ref n]) => some (p, s, some n)
  | _ => none
def ndNot (tp : va_W) (a : Nat) : Option Nat := match ndl tp a with
  | some (10, [.ref p]) => some p
  | _ => none
def ndCmp (tp : va_W) (a : Nat) : Option (Nat × Nat × Int32) := match ndl tp a with
  | some (11, [.ref p, .ref u, .int s]) => some (p, u, s)
  | _ => none
theorem ndNum_s {tp : va_W} {a : Nat} {n : Int32} (h : ndNum tp a = some n) : ndl tp a = some (7, [.int n]) := by
  unfold ndNum at h
  split at h
  · cases h; assumption
  · cases h
theorem ndLet_s {tp : va_W} {a : Nat} {n : Int32} (h : ndLet tp a = some n) : ndl tp a = some (8, [.int n]) := by
  unfold ndLet at h
  split at h
  · cases h; assumption
  · cases h
theorem ndRow_s {tp : va_W} {a : Nat} {s : Int32} {p : Nat} {n : Option Nat} (h : ndRow tp a = some (s, p, n)) : ndl tp a = some (6, [.int s, .ref p, va_rf n]) := by
  unfold ndRow at h
  split at h
  · cases h; assumption
  · cases h; assumption
  · cases h
theorem ndSome_s {tp : va_W} {a : Nat} {s : Int32} {p : Nat} {n : Option Nat} (h : ndSome tp a = some (p, s, n)) : ndl tp a = some (9, [.ref p, .int s, va_rf n]) := by
  unfold ndSome at h
  split at h
  · cases h; assumption
  · cases h; assumption
  · cases h
theorem ndNot_s {tp : va_W} {a p : Nat} (h : ndNot tp a = some p) : ndl tp a = some (10, [.ref p]) := by
  unfold ndNot at h
  split at h
  · cases h; assumption
  · cases h
theorem ndCmp_s {tp : va_W} {a p u : Nat} {s : Int32} (h : ndCmp tp a = some (p, u, s)) : ndl tp a = some (11, [.ref p, .ref u, .int s]) := by
  unfold ndCmp at h
  split at h
  · cases h; assumption
  · cases h
/-- null or an address -/
def ifn {ρ : Type} (r : Option Nat) (M1 : Option ρ) (M2 : Nat → Option ρ) : Option ρ := match r with
  | none => M1
  | some a => M2 a
section TREE
variable {G : Gty} {l : Launch} {cc : ByteArray} {nL : Nat} {own : String} {D : va_G} {dA : Nat → ClassId} {fr lo mc ms : Nat} {ρ : Type} {res : ρ} {M M1 : Option ρ} {M2 : Nat → Option ρ} {w w' wc' : va_W} {ce sl pc : Nat} {lv : List (Nat × Value)} {st rest : List Value}
variable {ad : Nat → Nat} {tt : (Nat → Option Nat) × (Nat → Option Nat) × va_W} {h : Hp}
theorem tm_getT (X : IsG G l cc nL own D dA fr lo mc ms) {C : String} {T0 : u_T} {N index ci f a : Nat} {ref : String} {fs : List Value} {v : Value} (hn : ndl tt.2.2 a = some (ci, fs)) (hin : ∀ w ∈ u_ws C T0 N, w ∈ lw_all) (hc : vwCl[ci]? = some (C, T0, N)) (hk : f < N) (hv : fs[f]? = some v) (hlk : Cond.fieldLink own index ref (T0 f).2.1 (T0 f).2.2.1 ∈ lw_all) (hsm : ref = (T0 f).1) (hd : decode cc pc = .ok (.getfield index, 3)) (k : TM G res M (wX ad dA tt h) ce sl (pc + 3) lv (v :: st)) : TM G res M (wX ad dA tt h) ce sl pc lv (.ref a :: st) := by
  obtain ⟨p, e, R, s, m, args, below, meth, c, Q, A, ⟨hx, hb, hml, hown, hts⟩, hK, hN, hA, hR, hG⟩ := X
  intro hm
  rw [hG]
  intro H locs ls hP hD hS hl
  obtain ⟨q, he⟩ := wX_node (ad := ad) (dA := dA) h hn
  exact va_get hx hb hts hin hown hK hP q he hc f hk (hts _ hlk) (fun _ h9 => by rw [hsm]; exact h9) hv hd ((hG ..).mp (k hm) H locs ls hP hD hS hl)
theorem tm_aload_nq (X : IsG G l cc nL own D dA fr lo mc ms) {i : Fin 4} {i0 : Nat} {x : Option Nat} (j : Nat) (hd : decode cc pc = .ok (.aload_n i, 1)) (hi : (i : Nat) = i0) (hj : lv[j]? = some (i0, va_rf x)) (k : TM G res M w ce sl (pc + 1) lv (va_rf x :: st)) : TM G res M w ce sl pc lv st := by
  obtain ⟨p, e, R, s, m, args, below, meth, c, Q, A, ⟨hx, hb, hml, hown, hts⟩, hK, hN, hA, hR, hG⟩ := X
  intro hm
  rw [hG]
  intro H locs ls hP hD hS hl
  cases x with
  | none => exact lv_aload_nN hx hb hd hi (lv_at hl j hj) ((hG ..).mp (k hm) H locs ls hP hD hS hl)
  | some x => exact lv_aload_n hx hb hd hi (lv_at hl j hj) ((hG ..).mp (k hm) H locs ls hP hD hS hl)
theorem tm_astore_nq (X : IsG G l cc nL own D dA fr lo mc ms) {i : Fin 4} {i0 : Nat} {x : Option Nat} (lv' : List (Nat × Value)) (hd : decode cc pc = .ok (.astore_n i, 1)) (hi : (i : Nat) = i0) (hn : i0 < nL) (hl' : (i0, va_rf x) :: lv.filter (fun q => !(q.1 == i0) && !(q.1 + 1 == i0 && q.2.category == 2)) = lv') (k : TM G res M w ce sl (pc + 1) lv' st) : TM G res M w ce sl pc lv (va_rf x :: st) := by
  obtain ⟨p, e, R, s, m, args, below, meth, c, Q, A, ⟨hx, hb, hml, hown, hts⟩, hK, hN, hA, hR, hG⟩ := X
  intro hm
  rw [hG]
  intro H locs ls hP hD hS hl
  cases x with
  | none => exact lv_astore_nN hx hb hd hi hl hn hl' (fun ls' hl9 => (hG ..).mp (k hm) H locs ls' hP hD hS hl9)
  | some x => exact lv_astore_n hx hb hd hi hl hn hl' (fun ls' hl9 => (hG ..).mp (k hm) H locs ls' hP hD hS hl9)
theorem tm_ifnullq (X : IsG G l cc nL own D dA fr lo mc ms) {x : Option Nat} {off : Int} (tgt : Nat) (hd : decode cc pc = .ok (.ifnull off, 3)) (ht : (pc : Int) + off = (tgt : Int)) (k1 : x = none → TM G res M1 w ce sl tgt lv st) (k2 : ∀ a, x = some a → TM G res (M2 a) w ce sl (pc + 3) lv st) : TM G res (ifn x M1 M2) w ce sl pc lv (va_rf x :: st) := by
  obtain ⟨p, e, R, s, m, args, below, meth, c, Q, A, ⟨hx, hb, hml, hown, hts⟩, hK, hN, hA, hR, hG⟩ := X
  intro hm
  rw [hG]
  intro H locs ls hP hD hS hl
  cases x with
  | none => exact lv_ifnullN hx hb hd ht ((hG ..).mp (k1 rfl hm) H locs ls hP hD hS hl)
  | some x => exact lv_ifnull hx hb hd ((hG ..).mp (k2 x rfl hm) H locs ls hP hD hS hl)
variable {x y : MethodName} {bytes : ByteArray} {maxL : Nat} {ret : Option FieldType} {fr1 lo1 mc1 ms1 : Nat} {As : List Value} {rv : Option Value} {b a : Nat} {index : Nat} {C owner : String} {r : Int32} {h' : Hp}
/-- an overriding method of an abstract one -/
theorem tm_callO {n q0 ci N : Nat} {T0 : u_T} {fs : List Value} (X : IsG G l cc nL own D dA fr lo mc ms) (hC : CT l y bytes maxL ret D dA fr1 lo1 0 0 w (.ref b :: As) (some (.int r)) wc') (hlk : Cond.methodLink own index x ∈ lw_all) (hsame : Cond.sameMethod x.cls owner x.name x.desc ∈ lw_all) (hdecl : Cond.declares ⟨owner, x.name, x.desc⟩ ∈ lw_tbl) (hsel : Cond.selects C x y ∈ lw_all) (hins : Cond.instanceMethod y ∈ lw_all) (hini : Cond.initialized y.cls ∈ lw_all) (hcd : Cond.code y bytes maxL ret ∈ lw_all) (hcy : Callee ⟨owner, x.name, x.desc⟩ n) (hn : As.length = n)
    (hq : w[q0]? = some (b, .inr (ci, fs))) (hcl : vwCl[ci]? = some (C, T0, N)) (hroom : fr1 + 1 ≤ fr ∧ 8 + (maxL + 11) + lo1 ≤ lo) (hcat : (rest.map fun v => v.category).sum ≤ 8) (hd : decode cc pc = .ok (.invokevirtual index, 3)) (hf : ce ≤ mc ∧ sl ≤ ms)
    {st0 : List Value} (hst : st0 = As.reverse ++ .ref b :: rest) (k : TM G res M wc' ce sl (pc + 3) lv (.int r :: rest)) : TM G res M w ce sl pc lv st0 := by
  obtain ⟨p, e, R, s, m, args, below, meth, c, Q, A, ⟨hx, hb, hml, hown, hts⟩, hK, hN, hA, ⟨h1, h2, h3, h4⟩, hG⟩ := X
  intro hm
  rw [hG]
  intro H locs ls hP hD hS hl
  have hF := va_A.of hD hS.1 hA (fun x h => h)
  have hcw : va_CU R s args own C owner index x y bytes maxL ret (ws_ y bytes maxL ret) { frames := fr1, cells := 0, slots := 0, locals := lo1 } 0 0 n := by
    refine ⟨⟨rfl, rfl, by rw [h1]; exact hroom.1, by rw [h2]; exact hroom.2, pay_in hts (lw_meth hcd), List.mem_cons_self⟩, hts _ hcd, hts _ hini, ⟨hcy.1, hcy.2.1⟩, fun sig hsg => ?_, hts _ hlk, hts _ hsame, va_Decl.abs (hN.1 _ hdecl rfl), hts _ hsel, hts _ hins⟩
    have h9 := hcy.2.2
    rw [hsg] at h9
    exact (Option.some.inj h9).symm
  refine callBehind (va_runU (As := As) (rest := rest) ⟨hx, hb, hml, hown, hts⟩ (hC H.size) hcw ⟨PCx.blind, va_recv hK hP hcl hq, PCx.at hK hN hS hF hP hD⟩ rfl hn hl.1 hst (lv_room hcat) hd ⟨by rw [h3]; exact hf.1, by rw [h4]; exact hf.2⟩) hS hF (fun H1 locs1 hP1 hD1 hz hk hS1 => ?_)
  exact (hG ..).mp (k hm) H1 locs1 ls hP1 (hD1.weaken (fun _ q _ h => hF q.1 h)) hS1 hl
/-- a static method that takes the whole world -/
theorem tm_callSX {n : Nat} (X : IsG G l cc nL own D dA fr lo mc ms) (hC : CT l y bytes maxL ret D dA fr1 lo1 0 0 w As (some (.int r)) wc') (hT : GoodIn lw_all (va_wsS own index y (ws_ y bytes maxL ret))) (hcy : Callee y n) (hn : As.length = n)
    (hroom : fr1 + 1 ≤ fr ∧ 8 + (maxL + 11) + lo1 ≤ lo) (hcat : (rest.map fun v => v.category).sum ≤ 8) (hd : decode cc pc = .ok (.invokestatic index, 3)) (hf : ce ≤ mc ∧ sl ≤ ms)
    {st0 : List Value} (hst : st0 = As.reverse ++ rest) (k : TM G res M wc' ce sl (pc + 3) lv (.int r :: rest)) : TM G res M w ce sl pc lv st0 := by
  obtain ⟨p, e, R, s, m, args, below, meth, c, Q, A, ⟨hx, hb, hml, hown, hts⟩, hK, hN, hA, ⟨h1, h2, h3, h4⟩, hG⟩ := X
  intro hm
  rw [hG]
  intro H locs ls hP hD hS hl
  have hF := va_A.of hD hS.1 hA (fun x h => h)
  refine callBehind (va_runS (As := As) (rest := rest) ⟨hx, hb, hml, hown, hts⟩ (hC H.size) (va_cwS n hts hT rfl rfl rfl hcy ⟨by rw [h1]; exact hroom.1, by rw [h2]; exact hroom.2⟩) ⟨PCx.blind, PCx.at hK hN hS hF hP hD⟩ rfl hn hl.1 hst (lv_room hcat) hd ⟨by rw [h3]; exact hf.1, by rw [h4]; exact hf.2⟩) hS hF (fun H1 locs1 hP1 hD1 hz hk hS1 => ?_)
  exact (hG ..).mp (k hm) H1 locs1 ls hP1 (hD1.weaken (fun _ q _ h => hF q.1 h)) hS1 hl
theorem cyA : Callee ⟨"HighSpots$Sum", "worth", "(LHighSpots$Asked;)I"⟩ 1 := by unfold Callee; decide +kernel
theorem cyB : Callee ⟨"HighSpots$Condition", "holds", "(LHighSpots$Asked;)I"⟩ 1 := by unfold Callee; decide +kernel
def cl3 {α β γ ρ : Type} (M : Option (α × β × γ)) (f : α → β → γ → Option ρ) : Option ρ := match M with
  | none => none
  | some (a, b, c) => f a b c
def on {ρ : Type} (r : Option Nat) (f : Nat → Option ρ) : Option ρ := match r with
  | none => none
  | some a => f a
theorem tm_cl3 {α β γ : Type} {N : Option (α × β × γ)} {f : α → β → γ → Option ρ} (k : ∀ a b c, N = some (a, b, c) → TM G res (f a b c) w ce sl pc lv st) : TM G res (cl3 N f) w ce sl pc lv st := by
  intro hm
  cases hN : N with
  | none => rw [hN] at hm; cases hm
  | some a => rw [hN] at hm; exact k a.1 a.2.1 a.2.2 hN hm
theorem tm_on {x : Option Nat} {f : Nat → Option ρ} (k : ∀ a, x = some a → TM G res (f a) w ce sl pc lv st) : TM G res (on x f) w ce sl pc lv st := by
  intro hm
  cases hx : x with
  | none => rw [hx] at hm; cases hm
  | some a => rw [hx] at hm; exact k a hx hm
theorem tm_nmQ {e : Option Nat} {F : Option Nat → Option ρ} (k : ∀ x : Option Nat, TM G res (F x) w ce sl pc lv (va_rf x :: st)) : TM G res (nm e F) w ce sl pc lv (va_rf e :: st) := k e
theorem tm_aaldq (X : IsG G l cc nL own D dA fr lo mc ms) {q0 t0 n : Nat} {C0 : String} {f : Nat → Option Nat} {i : Int32} (ha : w[q0]? = some (a, .inl (dA t0, n, .inr (.inr (.inr (.inr f)))))) (ht : (tyA dA)[t0]? = some (dA t0, .object C0)) (hd : decode cc pc = .ok (.aaload, 1)) (k : TM G res M w ce sl (pc + 1) lv (va_rf (f i.toNatClampNeg) :: st)) : TM G res (ck i n M) w ce sl pc lv (.int i :: .ref a :: st) := by
  obtain ⟨p, e, R, s, m, args, below, meth, c, Q, A, ⟨hx, hb, hml, hown, hts⟩, hK, hN, hA, hR, hG⟩ := X
  intro hm
  rw [hG]
  intro H locs ls hP hD hS hl
  unfold ck at hm
  by_cases hin : vp_in i n
  · rw [if_neg hin] at hm
    exact va_aldq hx hb hK hP q0 t0 ha ht hin hd ((hG ..).mp (k hm) H locs ls hP hD hS hl)
  · rw [if_pos (Classical.byContradiction hin)] at hm
    cases hm
end TREE
/-- F is what 'worth' answers at the nodes: a contract of the node's own class -/
def WCT (F : Nat → Hp → Option (Int32 × Hp)) (fr lo : Nat) (l : Launch) (D : va_G) (ad : Nat → Nat) (dA : Nat → ClassId) (tt : (Nat → Option Nat) × (Nat → Option Nat) × va_W) : Prop := ∀ (a : Nat) (h : Hp) (r : Int32) (h' : Hp), F a h = some (r, h') →
  (∃ n, ndNum tt.2.2 a = some n ∧ CT l yX9_worth cX9_worth 2 (some .int) D dA fr lo 0 0 (wX ad dA tt h) [.ref a, .ref (ad 30)] (some (.int r)) (wX ad dA tt h')) ∨ (∃ n, ndLet tt.2.2 a = some n ∧ CT l yX10_worth cX10_worth 2 (some .int) D dA fr lo 0 0 (wX ad dA tt h) [.ref a, .ref (ad 30)] (some (.int r)) (wX ad dA tt h')) ∨ (∃ n, ndRow tt.2.2 a = some n ∧ CT l yX8_worth cX8_worth 4 (some .int) D dA fr lo 0 0 (wX ad dA tt h) [.ref a, .ref (ad 30)] (some (.int r)) (wX ad dA tt h'))
/-- F is what 'holds' answers at the nodes -/
def HCT (F : Nat → Hp → Option (Int32 × Hp)) (fr lo : Nat) (l : Launch) (D : va_G) (ad : Nat → Nat) (dA : Nat → ClassId) (tt : (Nat → Option Nat) × (Nat → Option Nat) × va_W) : Prop := ∀ (a : Nat) (h : Hp) (r : Int32) (h' : Hp), F a h = some (r, h') →
  (∃ n, ndCmp tt.2.2 a = some n ∧ CT l yX14_holds cX14_holds 5 (some .int) D dA fr lo 0 0 (wX ad dA tt h) [.ref a, .ref (ad 30)] (some (.int r)) (wX ad dA tt h')) ∨ (∃ n, ndNot tt.2.2 a = some n ∧ CT l yX13_holds cX13_holds 3 (some .int) D dA fr lo 0 0 (wX ad dA tt h) [.ref a, .ref (ad 30)] (some (.int r)) (wX ad dA tt h')) ∨ (∃ n, ndSome tt.2.2 a = some n ∧ CT l yX12_holds cX12_holds 4 (some .int) D dA fr lo 0 0 (wX ad dA tt h) [.ref a, .ref (ad 30)] (some (.int r)) (wX ad dA tt h'))
section TREE2
variable {G : Gty} {l : Launch} {cc : ByteArray} {nL : Nat} {own : String} {D : va_G} {dA : Nat → ClassId} {fr lo mc ms : Nat} {ρ : Type} {res : ρ} {M : Option ρ} {ce sl pc : Nat} {lv : List (Nat × Value)} {rest : List Value}
variable {ad : Nat → Nat} {tt : (Nat → Option Nat) × (Nat → Option Nat) × va_W} {h h' : Hp} {F : Nat → Hp → Option (Int32 × Hp)} {fr1 lo1 index a : Nat} {r : Int32}
theorem tm_worth (X : IsG G l cc nL own D dA fr lo mc ms) (hF : WCT F fr1 lo1 l D ad dA tt) (hlk : Cond.methodLink own index ⟨"HighSpots$Sum", "worth", "(LHighSpots$Asked;)I"⟩ ∈ lw_all) (he : F a h = some (r, h')) (hroom : fr1 + 1 ≤ fr ∧ 23 + lo1 ≤ lo) (hcat : (rest.map fun v => v.category).sum ≤ 8) (hd : decode cc pc = .ok (.invokevirtual index, 3)) (hf : ce ≤ mc ∧ sl ≤ ms) (k : TM G res M (wX ad dA tt h') ce sl (pc + 3) lv (.int r :: rest)) : TM G res M (wX ad dA tt h) ce sl pc lv (.ref (ad 30) :: .ref a :: rest) := by
  rcases hF a h r h' he with ⟨n, hn, hC⟩ | ⟨n, hn, hC⟩ | ⟨n, hn, hC⟩
  · obtain ⟨q, hq⟩ := wX_node (ad := ad) (dA := dA) h (ndNum_s hn)
    exact tm_callO (x := ⟨"HighSpots$Sum", "worth", "(LHighSpots$Asked;)I"⟩) (owner := "HighSpots$Sum") (C := "HighSpots$Number") (As := [.ref (ad 30)]) X hC hlk q1105 q1104 q1109 q1110 q132 q1111 cyA rfl hq rfl ⟨hroom.1, by omega⟩ hcat hd hf rfl k
  · obtain ⟨q, hq⟩ := wX_node (ad := ad) (dA := dA) h (ndLet_s hn)
    exact tm_callO (x := ⟨"HighSpots$Sum", "worth", "(LHighSpots$Asked;)I"⟩) (owner := "HighSpots$Sum") (C := "HighSpots$Letter") (As := [.ref (ad 30)]) X hC hlk q1105 q1104 q1106 q1107 q133 q1108 cyA rfl hq rfl ⟨hroom.1, by omega⟩ hcat hd hf rfl k
  · obtain ⟨q, hq⟩ := wX_node (ad := ad) (dA := dA) h (ndRow_s hn)
    exact tm_callO (x := ⟨"HighSpots$Sum", "worth", "(LHighSpots$Asked;)I"⟩) (owner := "HighSpots$Sum") (C := "HighSpots$Row") (As := [.ref (ad 30)]) X hC hlk q1105 q1104 q1112 q1113 q131 q1114 cyA rfl hq rfl ⟨hroom.1, by omega⟩ hcat hd hf rfl k
theorem tm_holds (X : IsG G l cc nL own D dA fr lo mc ms) (hF : HCT F fr1 lo1 l D ad dA tt) (hlk : Cond.methodLink own index ⟨"HighSpots$Condition", "holds", "(LHighSpots$Asked;)I"⟩ ∈ lw_all) (he : F a h = some (r, h')) (hroom : fr1 + 1 ≤ fr ∧ 24 + lo1 ≤ lo) (hcat : (rest.map fun v => v.category).sum ≤ 8) (hd : decode cc pc = .ok (.invokevirtual index, 3)) (hf : ce ≤ mc ∧ sl ≤ ms) (k : TM G res M (wX ad dA tt h') ce sl (pc + 3) lv (.int r :: rest)) : TM G res M (wX ad dA tt h) ce sl pc lv (.ref (ad 30) :: .ref a :: rest) := by
  rcases hF a h r h' he with ⟨n, hn, hC⟩ | ⟨n, hn, hC⟩ | ⟨n, hn, hC⟩
  · obtain ⟨q, hq⟩ := wX_node (ad := ad) (dA := dA) h (ndCmp_s hn)
    exact tm_callO (x := ⟨"HighSpots$Condition", "holds", "(LHighSpots$Asked;)I"⟩) (owner := "HighSpots$Condition") (C := "HighSpots$Compared") (As := [.ref (ad 30)]) X hC hlk q1099 q1098 q1100 q1101 q137 q1102 cyB rfl hq rfl ⟨hroom.1, by omega⟩ hcat hd hf rfl k
  · obtain ⟨q, hq⟩ := wX_node (ad := ad) (dA := dA) h (ndNot_s hn)
    exact tm_callO (x := ⟨"HighSpots$Condition", "holds", "(LHighSpots$Asked;)I"⟩) (owner := "HighSpots$Condition") (C := "HighSpots$Not") (As := [.ref (ad 30)]) X hC hlk q1099 q1098 q1119 q1120 q136 q1121 cyB rfl hq rfl ⟨hroom.1, by omega⟩ hcat hd hf rfl k
  · obtain ⟨q, hq⟩ := wX_node (ad := ad) (dA := dA) h (ndSome_s hn)
    exact tm_callO (x := ⟨"HighSpots$Condition", "holds", "(LHighSpots$Asked;)I"⟩) (owner := "HighSpots$Condition") (C := "HighSpots$Some") (As := [.ref (ad 30)]) X hC hlk q1099 q1098 q1126 q1123 q135 q1124 cyB rfl hq rfl ⟨hroom.1, by omega⟩ hcat hd hf rfl k
end TREE2
