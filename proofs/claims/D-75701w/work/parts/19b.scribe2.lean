set_option maxRecDepth 100000
section ROWS4
variable {G : Gty} {l : Launch} {cc : ByteArray} {nL : Nat} {own : String} {D : va_G} {dA : Nat → ClassId} {fr lo mc ms : Nat} {ρ : Type} {res : ρ} {M M1 M2 : Option ρ} {w w' : va_W} {ce sl pc : Nat} {lv : List (Nat × Value)} {st : List Value}
variable {wf : Hp → va_W} {h : Hp} {E : Hp → Option ρ}
theorem tm_putIA (X : IsG G l cc nL own D dA fr lo mc ms) {C : String} {T0 : u_T} {N index q k0 a ci f : Nat} {ref : String} {v : Int32} (ha : FI wf q k0 a ci f) (hin : ∀ w ∈ u_ws C T0 N, w ∈ lw_all) (hc : vwCl[ci]? = some (C, T0, N)) (hk : f < N) (hap : Apart D dA ci N) (hfin : (T0 f).2.2.2 = false) (hint : parseFieldDescriptor (T0 f).2.2.1 = some .int) (hlk : Cond.fieldLink own index ref (T0 f).2.1 (T0 f).2.2.1 ∈ lw_all) (hsm : ref = (T0 f).1) (hd : decode cc pc = .ok (.putfield index, 3)) (k : ∀ h' : Hp, TM G res (E h') (wf h') ce sl (pc + 3) lv st) : TM G res (nm (u2 h k0 f v) E) (wf h) ce sl pc lv (.int v :: .ref a :: st) := by
  obtain ⟨p, e, R, s, m, args, below, meth, c, Q, A, ⟨hx, hb, hml, hown, hts⟩, hK, hN, hA, hR, hG⟩ := X
  intro hm
  rw [hG]
  intro H locs ls hP hD hS hl
  obtain ⟨fs, h1, h2, h3, h4⟩ := ha h
  exact va_putA (ty := .int) hx hb hts hin (hap _ _ hts hK) hown hK hP hD hS q h1 hc f hk (hts _ hlk) (fun _ h9 => by rw [hsm]; exact h9) hfin hint rfl rfl h3 hd (fun H9 locs9 hP9 hD9 hS9 => (hG ..).mp (k _ hm) H9 locs9 ls (h4 v ▸ hP9) (h4 v ▸ hD9) hS9 hl)
theorem tm_putFA (X : IsGI G l cc nL own D dA fr lo mc ms) {C : String} {T0 : u_T} {N index ci f a : Nat} {ref : String} {fs : List Value} {v : Value} {ty : FieldType} (q : Nat) (he : w[q]? = some (a, .inr (ci, fs))) (hin : ∀ w ∈ u_ws C T0 N, w ∈ lw_all) (hc : vwCl[ci]? = some (C, T0, N)) (hk : f < N) (hap : Apart D dA ci N) (hfin : (T0 f).2.2.2 = true) (hdecl : (T0 f).1 = own) (hint : parseFieldDescriptor (T0 f).2.2.1 = some ty) (hn : narrow ty v = v) (hfit : fits ty v = true) (hl9 : f < fs.length) (hlk : Cond.fieldLink own index ref (T0 f).2.1 (T0 f).2.2.1 ∈ lw_all) (hsm : ref = (T0 f).1) (hd : decode cc pc = .ok (.putfield index, 3)) (hw : w.set q (a, .inr (ci, fs.set f v)) = w') (k : TM G res M w' ce sl (pc + 3) lv st) : TM G res M w ce sl pc lv (v :: .ref a :: st) := by
  obtain ⟨p, e, R, s, m, args, below, meth, c, Q, A, ⟨hx, hb, hml, hown, hts⟩, hK, hN, hA, hR, hini9, hG⟩ := X
  intro hm
  rw [hG]
  intro H locs ls hP hD hS hl
  exact va_putFA (ty := ty) hx hb hts hin (hap _ _ hts hK) hown hK hP hD hS q he hc f hk (hts _ hlk) (fun _ h9 => by rw [hsm]; exact h9) hfin hini9 hdecl hint hn hfit hl9 hd (fun H9 locs9 hP9 hD9 hS9 => (hG ..).mp (k hm) H9 locs9 ls (hw ▸ hP9) (hw ▸ hD9) hS9 hl)
/-- the last cells are dropped -/
theorem tm_dropR (X : IsG G l cc nL own D dA fr lo mc ms) {v : va_W} (k : TM G res M w ce sl pc lv st) : TM G res M (w ++ v) ce sl pc lv st := by
  obtain ⟨p, e, R, s, m, args, below, meth, c, Q, A, ⟨hx, hb, hml, hown, hts⟩, hK, hN, hA, hR, hG⟩ := X
  intro hm
  rw [hG]
  intro H locs ls hP hD hS hl
  exact (hG ..).mp (k hm) H locs ls hP.left hD.left hS hl
/-- cells that stand behind a world that doesn't look at their place -/
theorem AR.right {w v : Hp → va_W} {q k a n L : Nat} {cA : ClassId} (h : AR v q k a n cA) (hL : ∀ h, (w h).length = L) (hw : ∀ h i x, w (u2 h k i x) = w h) : AR (fun h => w h ++ v h) (L + q) k a n cA := by
  intro hp
  obtain ⟨h1, h2⟩ := h hp
  constructor
  · show (w hp ++ v hp)[L + q]? = _
    rw [List.getElem?_append_right (by rw [hL]; omega), hL, show L + q - L = q by omega]
    exact h1
  · intro i x
    show (w hp ++ v hp).set (L + q) _ = w (u2 hp k i x) ++ v (u2 hp k i x)
    rw [List.set_append_right _ _ (by rw [hL]; omega), hL, show L + q - L = q by omega, h2, hw]
theorem FI.right {w v : Hp → va_W} {q k a ci f L : Nat} (h : FI v q k a ci f) (hL : ∀ h, (w h).length = L) (hw : ∀ h i x, w (u2 h k i x) = w h) : FI (fun h => w h ++ v h) (L + q) k a ci f := by
  intro hp
  obtain ⟨fs, h1, h2, h3, h4⟩ := h hp
  refine ⟨fs, ?_, h2, h3, fun x => ?_⟩
  · show (w hp ++ v hp)[L + q]? = _
    rw [List.getElem?_append_right (by rw [hL]; omega), hL, show L + q - L = q by omega]
    exact h1
  · show (w hp ++ v hp).set (L + q) _ = w (u2 hp k f x) ++ v (u2 hp k f x)
    rw [List.set_append_right _ _ (by rw [hL]; omega), hL, show L + q - L = q by omega, h4, hw]
theorem FR.right {w v : va_W} {q a ci f b L : Nat} (h : FR v q a ci f b) (hL : w.length = L) : FR (w ++ v) (L + q) a ci f b := by
  obtain ⟨fs, h1, h2⟩ := h
  refine ⟨fs, ?_, h2⟩
  rw [List.getElem?_append_right (by rw [hL]; omega), hL, show L + q - L = q by omega]
  exact h1
theorem AA.right {w v : va_W} {q a n L : Nat} {cA : ClassId} {g : Nat → Nat} (h : AA v q a n cA g) (hL : w.length = L) : AA (w ++ v) (L + q) a n cA g := by
  show (w ++ v)[L + q]? = _
  rw [List.getElem?_append_right (by rw [hL]; omega), hL, show L + q - L = q by omega]
  exact h
end ROWS4
