set_option maxRecDepth 100000
def sb (i j : Nat) : Int32 := (bytS.getD i []).getD j 0
section STR
variable {G : Gty} {l : Launch} {cc : ByteArray} {nL : Nat} {own : String} {D : va_G} {dA : Nat → ClassId} {fr lo mc ms : Nat} {ρ : Type} {res : ρ} {M M1 M2 : Option ρ} {w w' : va_W} {ce sl pc : Nat} {lv : List (Nat × Value)} {st : List Value}
theorem tm_ldcS0 (X : IsG G l cc nL own D dA fr lo mc ms)  (ho : own = "HighSpots$Reader") (hd : decode cc pc = .ok (.ldc 129, 2)) (k : TM G res M w ce sl (pc + 2) lv (.ref (dA 10) :: st)) : TM G res M w ce sl pc lv st := by
  obtain ⟨p, e, R, s, m, args, below, meth, c, Q, A, ⟨hx, hb, hml, hown, hts⟩, hK, hN, hA, hR, hG⟩ := X
  intro hm
  rw [hG]
  intro H locs ls hP hD hS hl
  subst ho
  exact va_ldcS hx hb hown hN.2.2.1 hd ((hG ..).mp (k hm) H locs ls hP hD hS hl)
theorem tm_ldcS1 (X : IsG G l cc nL own D dA fr lo mc ms)  (ho : own = "HighSpots$Reader") (hd : decode cc pc = .ok (.ldc 75, 2)) (k : TM G res M w ce sl (pc + 2) lv (.ref (dA 11) :: st)) : TM G res M w ce sl pc lv st := by
  obtain ⟨p, e, R, s, m, args, below, meth, c, Q, A, ⟨hx, hb, hml, hown, hts⟩, hK, hN, hA, hR, hG⟩ := X
  intro hm
  rw [hG]
  intro H locs ls hP hD hS hl
  subst ho
  exact va_ldcS hx hb hown hN.2.2.2.1 hd ((hG ..).mp (k hm) H locs ls hP hD hS hl)
theorem tm_ldcS2 (X : IsG G l cc nL own D dA fr lo mc ms)  (ho : own = "HighSpots$Guide") (hd : decode cc pc = .ok (.ldc 52, 2)) (k : TM G res M w ce sl (pc + 2) lv (.ref (dA 12) :: st)) : TM G res M w ce sl pc lv st := by
  obtain ⟨p, e, R, s, m, args, below, meth, c, Q, A, ⟨hx, hb, hml, hown, hts⟩, hK, hN, hA, hR, hG⟩ := X
  intro hm
  rw [hG]
  intro H locs ls hP hD hS hl
  subst ho
  exact va_ldcS hx hb hown hN.2.2.2.2.1 hd ((hG ..).mp (k hm) H locs ls hP hD hS hl)
theorem tm_csz (X : IsG G l cc nL own D dA fr lo mc ms) {index : Nat} {ref : String} (hlk : Cond.fieldLink own index ref "COMPACT_STRINGS" "Z" ∈ lw_all) (hsm : ref = "java/lang/String") (hd : decode cc pc = .ok (.getstatic index, 3)) (k : TM G res M w ce sl (pc + 3) lv (.int 1 :: st)) : TM G res M w ce sl pc lv st := by
  obtain ⟨p, e, R, s, m, args, below, meth, c, Q, A, ⟨hx, hb, hml, hown, hts⟩, hK, hN, hA, hR, hG⟩ := X
  intro hm
  rw [hG]
  intro H locs ls hP hD hS hl
  exact va_gets hx hb hN.2.2.2.2.2 hS hown (hts _ hlk) (fun _ h9 => by rw [hsm]; exact h9) hd ((hG ..).mp (k hm) H locs ls hP hD hS hl)
theorem tm_scoder (X : IsG G l cc nL own D dA fr lo mc ms) {index i a : Nat} {ref : String} (hi : i < 3) (hlk : Cond.fieldLink own index ref "coder" "B" ∈ lw_all) (hsm : ref = "java/lang/String") (ha : dA (10 + i) = a) (hd : decode cc pc = .ok (.getfield index, 3)) (k : TM G res M w ce sl (pc + 3) lv (.int 0 :: st)) : TM G res M w ce sl pc lv (.ref a :: st) := by
  obtain ⟨p, e, R, s, m, args, below, meth, c, Q, A, ⟨hx, hb, hml, hown, hts⟩, hK, hN, hA, hR, hG⟩ := X
  intro hm
  rw [hG]
  intro H locs ls hP hD hS hl
  subst ha
  exact vk_getf hx hb (hN.2.1.1 i hi).2.1 hS hown (hts _ hlk) (fun _ h9 => by rw [hsm]; exact h9) hd ((hG ..).mp (k hm) H locs ls hP hD hS hl)
theorem tm_svalue (X : IsG G l cc nL own D dA fr lo mc ms) {index i a : Nat} {ref : String} (b : Nat) (hi : i < 3) (hlk : Cond.fieldLink own index ref "value" "[B" ∈ lw_all) (hsm : ref = "java/lang/String") (ha : dA (10 + i) = a) (hb9 : dA (20 + i) = b) (hd : decode cc pc = .ok (.getfield index, 3)) (k : TM G res M w ce sl (pc + 3) lv (.ref b :: st)) : TM G res M w ce sl pc lv (.ref a :: st) := by
  obtain ⟨p, e, R, s, m, args, below, meth, c, Q, A, ⟨hx, hb, hml, hown, hts⟩, hK, hN, hA, hR, hG⟩ := X
  intro hm
  rw [hG]
  intro H locs ls hP hD hS hl
  subst ha
  subst hb9
  exact vk_getf hx hb (hN.2.1.1 i hi).2.2.1 hS hown (hts _ hlk) (fun _ h9 => by rw [hsm]; exact h9) hd ((hG ..).mp (k hm) H locs ls hP hD hS hl)
theorem tm_slen (X : IsG G l cc nL own D dA fr lo mc ms) {i a : Nat} {v : Int32} (hi : i < 3) (ha : dA (20 + i) = a) (hv : Int32.ofNat (lenS.getD i 0) = v) (hd : decode cc pc = .ok (.arraylength, 1)) (k : TM G res M w ce sl (pc + 1) lv (.int v :: st)) : TM G res M w ce sl pc lv (.ref a :: st) := by
  obtain ⟨p, e, R, s, m, args, below, meth, c, Q, A, ⟨hx, hb, hml, hown, hts⟩, hK, hN, hA, hR, hG⟩ := X
  intro hm
  rw [hG]
  intro H locs ls hP hD hS hl
  subst ha
  exact va_tlen hx hb (hN.2.1.1 i hi).2.2.2 hS hv hd ((hG ..).mp (k hm) H locs ls hP hD hS hl)
theorem tm_sbald (X : IsG G l cc nL own D dA fr lo mc ms) {i a n : Nat} {j : Int32} (hi : i < 3) (ha : dA (20 + i) = a) (hn : lenS.getD i 0 = n) (hd : decode cc pc = .ok (.baload, 1)) (k : TM G res M w ce sl (pc + 1) lv (.int (sb i j.toNatClampNeg) :: st)) : TM G res (ck j n M) w ce sl pc lv (.int j :: .ref a :: st) := by
  obtain ⟨p, e, R, s, m, args, below, meth, c, Q, A, ⟨hx, hb, hml, hown, hts⟩, hK, hN, hA, hR, hG⟩ := X
  intro hm
  rw [hG]
  intro H locs ls hP hD hS hl
  subst ha
  subst hn
  unfold ck at hm
  by_cases hin : vp_in j (lenS.getD i 0)
  · rw [if_neg hin] at hm
    exact va_tb hx hb (hN.2.1.1 i hi).2.2.2 hS hin rfl hd ((hG ..).mp (k hm) H locs ls hP hD hS hl)
  · rw [if_pos (Classical.byContradiction hin)] at hm
    cases hm
variable {y : MethodName} {bytes : ByteArray} {maxL : Nat} {ret : Option FieldType} {fr1 lo1 : Nat} {As rest : List Value} {index b : Nat} {r : Int32}
/-- a method of a text constant -/
theorem tm_callVSi {n i : Nat} (X : IsG G l cc nL own D dA fr lo mc ms) (hi : i < 3) (hbi : dA (10 + i) = b) (hycls : y.cls = "java/lang/String") (hC : CT l y bytes maxL ret D dA fr1 lo1 0 0 [] (.ref b :: As) (some (.int r)) []) (hT : GoodIn lw_all (wsV own index y.cls y (ws_ y bytes maxL ret))) (hcy : Callee y n) (hn : As.length = n)
    (hroom : fr1 + 1 ≤ fr ∧ 8 + (maxL + 11) + lo1 ≤ lo) (hcat : (rest.map fun v => v.category).sum ≤ 8) (hd : decode cc pc = .ok (.invokevirtual index, 3)) (hf : ce ≤ mc ∧ sl ≤ ms)
    {st0 : List Value} (hst : st0 = As.reverse ++ .ref b :: rest) (k : TM G res M w ce sl (pc + 3) lv (.int r :: rest)) : TM G res M w ce sl pc lv st0 := by
  obtain ⟨p, e, R, s, m, args, below, meth, c, Q, A, ⟨hx, hb, hml, hown, hts⟩, hK, hN, hA, ⟨h1, h2, h3, h4⟩, hG⟩ := X
  intro hm
  rw [hG]
  intro H locs ls hP hD hS hl
  have hP0 : va_P D vwCl [] H := fun k q hk => by cases hk
  have hD0 : va_D A [] := ⟨fun i j p q hi => by (cases hi), fun k q hk => by cases hk⟩
  have hF := va_A.of (A := A) (sz := H.size) hD0 hS.1 hA (fun x h => h)
  have hrv : ∃ cell : Cell, H[b]? = some cell ∧ cell.vm.isStatics = false ∧ s.vm.findClass y.cls = some cell.cls := by
    rw [hycls, ← hbi]
    exact vk_recv (adK := fun i => dA (10 + i)) hN.2.1 hi hS
  refine callBehind (va_runV (As := As) (rest := rest) ⟨hx, hb, hml, hown, hts⟩ (hC H.size) (cwV n hts hT rfl rfl rfl ⟨rfl, hcy⟩ ⟨by rw [h1]; exact hroom.1, by rw [h2]; exact hroom.2⟩) ⟨PCx.blind, hrv, PCx.at hK hN hS hF hP0 hD0⟩ rfl hn hl.1 hst (lv_room hcat) hd ⟨by rw [h3]; exact hf.1, by rw [h4]; exact hf.2⟩) hS hF (fun H1 locs1 hP1 hD1 hz hk hS1 => ?_)
  refine (hG ..).mp (k hm) H1 locs1 ls (hP.kept (fun j q hj => hk q.1 (hP j q hj).lt (fun z => ?_))) hD hS1 hl
  rcases z with ⟨k, e, z⟩ | z
  · cases z
  · exact absurd (hP j q hj).lt (by omega)
/-- an opening for any answer that is an int on the stack -/
theorem ct_openT {av : List Value} {ty : FieldType} {v : Int32} (hy : plainName y.cls = true) (hlen : (lg_sl av).length ≤ nL) (hn : narrow ty (.int v) = .int v)
    (body : ∀ G : Gty, IsG G l cc nL y.cls D dA fr lo mc ms → RTi G cc w' mc ms v → G w 0 0 0 (lv_args 0 av) []) : CT l y cc nL (some ty) D dA fr lo mc ms w av (some (.int v)) w' := by
  intro sz
  refine Met.ofW (cc := cc) (maxL := nL) (ret := some ty) hy rfl ?_
  intro p e s m args below meth c s₁ B hml hv
  obtain ⟨rfl, hsz, hP, hK, hN, hD0⟩ := hv
  have hx := B.exec
  have hb := B.bytes
  have hr := B.returns
  have hlk := B.notSynchronized
  have hts := atoms_spec (ws := ws_ y cc nL (some ty)) B.pre
  have hts : ∀ w ∈ lw_all, w.before _ s = true := fun w h => hts w (List.mem_cons_of_mem _ h)
  have hown : s.vm.findClass y.cls = some m.cls := findClass_of_methodNamed B.named
  subst hsz
  have hD := hD0.self (sz := s.heap.size)
  have hl := lv_entry av (n := nL) hlen
  rw [lg_entry_eq]
  generalize (lg_sl av ++ List.replicate (nL - (lg_sl av).length) Slot.unset).toArray = ls at hl ⊢
  have hA : ∀ q : Nat, s.heap.size ≤ q → va_A w s.heap.size q := fun q h => Or.inr h
  refine body (fun w ce sl pc lv st => ∀ (H : Heap) (locs : List Loc) (ls : Array Slot), va_P D vwCl w H → va_D (va_A _ s.heap.size) w → va_S (va_A _ s.heap.size) s.heap H locs → lv_has ls nL lv → W p l e (headSpec (ws_ y cc nL (some ty)) { frames := fr, cells := mc, slots := ms, locals := lo }).room s m av.toArray below meth c H locs ce sl (MQ below (QCx D _ w' s.heap.size (some (.int v))) av.toArray s mc ms (va_A _ s.heap.size)) (F0 m pc ls st)) ⟨p, e, _, s, m, _, below, meth, c, _, _, ⟨hx, hb, hml, hown, hts⟩, hK, hN, hA, ⟨rfl, rfl, rfl, rfl⟩, fun _ _ _ _ _ _ => Iff.rfl⟩ ?_ s.heap [] ls hP hD va_S.rf hl
  intro pc lv hd H locs ls hP hD hS hl
  exact W.zret hx hb hr hn (fun t ht hW => ⟨⟨rfl, by rw [ht]; exact hP, hD⟩, hS.F ht⟩) hS.2.2 hd hlk
end STR
