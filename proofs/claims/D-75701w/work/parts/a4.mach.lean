/-! law: the plain machine, and how codes are reckoned -/
set_option maxRecDepth 100000
abbrev VF : Type := (Nat → Int32) → Option Int32
def uN : Nat := 1048576
def sgn (c : Nat) : Nat := if c = 43 then 2 else if c = 45 then 3 else if c = 42 then 4 else if c = 47 then 5 else if c = 37 then 6 else 0
def cmS (c : Nat) : Nat := if c = 60 then 7 else if c = 62 then 8 else if c = 61 then 9 else 0
def fac (c : Nat) : Option Nat := if c = 117 then some 0 else if c = 108 then some 1 else if c = 99 then some 2 else if c = 101 then some 3 else if c = 97 then some 4 else if c = 98 then some 5 else if c = 104 then some 6 else if c = 107 then some 7 else if c = 116 then some 8 else if c = 119 then some 9 else none
def nmb (t : Nat → Nat) (n : Nat) : Nat → Nat → Nat → Nat ⊕ (Nat × Nat)
  | 0, a, v => if 48 ≤ hc t n a ∧ hc t n a ≤ 57 then .inl a else .inr (v, a)
  | k + 1, a, v => if 48 ≤ hc t n a ∧ hc t n a ≤ 57 then nmb t n k (a + 1) (10 * v + (hc t n a - 48)) else .inr (v, a)
/-- what a sum's steps leave alone: what comes behind it, the waits, the clause under way, the clauses -/
abbrev Zq : Type := Nat × List Nat × (Nat × Nat × Nat) × List (Nat × Nat × Nat × Nat)
abbrev Zs : Type := Nat × Nat × Nat × List Nat × List Nat × Zq
abbrev Zr : Type := (Nat × Nat) ⊕ (List Nat × List (Nat × Nat × Nat × Nat))
/-- a factor begins -/
def zF (t : Nat → Nat) (n a o : Nat) (S K : List Nat) (q : Zq) : Zr ⊕ Zs :=
  if hc t n a = 91 then (if o = 6 then .inl (.inl (5, a)) else .inr (1, a + 1, o + 1, 14 :: S, K, q))
  else if 48 ≤ hc t n a ∧ hc t n a ≤ 57 then (match nmb t n 5 a 0 with
    | .inl p => .inl (.inl (2, p))
    | .inr (v, a') => .inr (2, a', o, S, K ++ [v], q))
  else match fac (hc t n a) with
    | some i => .inr (2, a + 1, o, S, K ++ [uN + i], q)
    | none => .inl (.inl (1, a))
/-- behind a factor -/
def zA (t : Nat → Nat) (n a o : Nat) (S K : List Nat) (q : Zq) : Zr ⊕ Zs := match S with
  | [] => if sgn (hc t n a) ≠ 0 then .inr (1, a + 1, o, [sgn (hc t n a)], K, q) else .inr (6, a, o, [], K, q)
  | s :: S' => if s < 7 ∧ (4 ≤ s ∨ sgn (hc t n a) < 4) then .inr (2, a, o, S', K ++ [uN * s], q)
    else if sgn (hc t n a) ≠ 0 then .inr (1, a + 1, o, sgn (hc t n a) :: s :: S', K, q)
    else if hc t n a = 93 then .inr (2, a + 1, o - 1, S', K, q)
    else .inl (.inl (1, a))
/-- a sum has ended -/
def zE (t : Nat → Nat) (n a o : Nat) (K : List Nat) (q : Zq) : Zr ⊕ Zs :=
  if q.1 = 0 then .inr (3, a, o, [], K, (0, q.2.1, (q.2.2.1.1, q.2.2.1.2.1, K.length), q.2.2.2))
  else if q.1 = 1 then (if cmS (hc t n a) = 0 then .inl (.inl (1, a)) else .inr (1, a + 1, o, [], K, (cmS (hc t n a), q.2)))
  else .inr (5, a, o, [], K ++ [uN * q.1], q)
/-- a condition begins -/
def zC (t : Nat → Nat) (n a : Nat) (K : List Nat) (q : Zq) : Zr ⊕ Zs := if hc t n a = 40 then .inr (4, a + 1, 1, [], K, (1, [13 * uN], q.2.2)) else .inl (.inl (1, a))
/-- a piece begins -/
def zP (t : Nat → Nat) (n a o : Nat) (K : List Nat) (q : Zq) : Zr ⊕ Zs :=
  if hc t n a = 33 then (if o = 6 then .inl (.inl (5, a)) else .inr (4, a + 1, o + 1, [], K, (1, 10 * uN :: q.2.1, q.2.2)))
  else if hc t n a = 40 then (if o = 6 then .inl (.inl (5, a)) else .inr (4, a + 1, o + 1, [], K, (1, 13 * uN :: q.2.1, q.2.2)))
  else .inr (1, a, o, [], K, (1, q.2))
/-- behind a piece -/
def zB (t : Nat → Nat) (n a o : Nat) (K : List Nat) (q : Zq) : Zr ⊕ Zs := match q.2.1 with
  | [] => .inr (7, a, o, [], K, (0, [], q.2.2.1, q.2.2.2 ++ [(q.2.2.1.1, q.2.2.1.2.1, q.2.2.1.2.2, K.length)]))
  | w :: W => if w / uN = 10 then .inr (5, a, o - 1, [], K ++ [10 * uN], (1, W, q.2.2))
    else if w / uN = 11 ∧ (hc t n a = 38 ∨ hc t n a = 124 ∨ hc t n a = 41) then .inr (5, a, o, [], K.set (w % uN) (11 * uN + K.length), (1, W, q.2.2))
    else if w / uN = 12 ∧ (hc t n a = 124 ∨ hc t n a = 41) then .inr (5, a, o, [], K.set (w % uN) (12 * uN + K.length), (1, W, q.2.2))
    else if hc t n a = 41 then .inr (5, a + 1, o - 1, [], K, (1, W, q.2.2))
    else if hc t n a = 38 then .inr (4, a + 1, o, [], K ++ [11 * uN], (1, (11 * uN + K.length) :: w :: W, q.2.2))
    else if hc t n a = 124 then .inr (4, a + 1, o, [], K ++ [12 * uN], (1, (12 * uN + K.length) :: w :: W, q.2.2))
    else .inl (.inl (1, a))
/-- behind a rule -/
def zL (t : Nat → Nat) (n a : Nat) (K : List Nat) (q : Zq) : Zr ⊕ Zs :=
  if n ≤ a then .inl (.inr (K, q.2.2.2)) else if hc t n a = 59 then .inr (0, a + 1, 0, [], K, q) else .inl (.inl (1, a))
/-- a rule begins -/
def z0 (t : Nat → Nat) (n a : Nat) (K : List Nat) (q : Zq) : Zr ⊕ Zs :=
  if hc t n a = 118 ∨ hc t n a = 121 ∨ hc t n a = 120 then (if q.2.2.2.length = 16 then .inl (.inl (4, a)) else if hc t n a = 120 then .inr (3, a + 1, 0, [], K, (0, [], (120, K.length, K.length), q.2.2.2)) else .inr (1, a + 1, 0, [], K, (0, [], (hc t n a, K.length, 0), q.2.2.2)))
  else .inl (.inl (1, a))
def zS (t : Nat → Nat) (n : Nat) : Zs → Zr ⊕ Zs
  | (0, a, _, _, K, q) => z0 t n a K q
  | (1, a, o, S, K, q) => zF t n a o S K q
  | (2, a, o, S, K, q) => zA t n a o S K q
  | (3, a, _, _, K, q) => zC t n a K q
  | (4, a, o, _, K, q) => zP t n a o K q
  | (5, a, o, _, K, q) => zB t n a o K q
  | (6, a, o, _, K, q) => zE t n a o K q
  | (_ + 7, a, _, _, K, q) => zL t n a K q
def zR (t : Nat → Nat) (n : Nat) : Nat → Zs → Option Zr
  | 0, _ => none
  | f + 1, s => match zS t n s with
    | .inl r => some r
    | .inr s' => zR t n f s'
def Hz (t : Nat → Nat) (n : Nat) (s : Zs) (r : Zr) : Prop := ∃ f, zR t n f s = some r
def Rn (t : Nat → Nat) (n : Nat) (s s' : Zs) : Prop := ∀ r, Hz t n s' r → Hz t n s r
section
variable {t : Nat → Nat} {n : Nat} {s s' s2 : Zs} {r r' : Zr}
theorem zR_m : ∀ f g s, zR t n f s = some r → zR t n (f + g) s = some r
  | 0, g, s, h => by cases h
  | f + 1, g, s, h => by
    rw [show f + 1 + g = f + g + 1 by omega]
    unfold zR at h ⊢
    cases e : zS t n s with
    | inl r0 =>
      rw [e] at h
      exact h
    | inr s0 =>
      rw [e] at h
      exact zR_m f g s0 h
theorem Hz_u (h1 : Hz t n s r) (h2 : Hz t n s r') : r = r' := by
  obtain ⟨f, h1⟩ := h1
  obtain ⟨g, h2⟩ := h2
  have a := zR_m f g s h1
  have b := zR_m g f s h2
  rw [Nat.add_comm] at b
  rw [a] at b
  cases b
  rfl
theorem Rn_r : Rn t n s s := fun _ h => h
theorem Rn_t (h1 : Rn t n s s') (h2 : Rn t n s' s2) : Rn t n s s2 := fun r h => h1 r (h2 r h)
theorem Rn_s (e : zS t n s = .inr s') : Rn t n s s' := fun r ⟨f, h⟩ => ⟨f + 1, by unfold zR; rw [e]; exact h⟩
theorem Hz_s (e : zS t n s = .inl r) : Hz t n s r := ⟨1, by unfold zR; rw [e]⟩
end
/-! codes -/
def rck (op : Nat) (x y : Int32) : Int32 := if op = 2 then x + y else if op = 3 then x - y else if op = 4 then x * y else if op = 5 then x / y else if op = 6 then jrem x y else if op = 7 then (if x < y then 1 else 0) else if op = 8 then (if y < x then 1 else 0) else (if x = y then 1 else 0)
def evO (op : Nat) (k : Nat) : List Int32 → Option (Option Int32 ⊕ (Nat × List Int32))
  | y :: x :: s => if (op = 5 ∨ op = 6) ∧ y = 0 then some (.inl none) else if 2 ≤ op ∧ op ≤ 9 then some (.inr (k + 1, rck op x y :: s)) else none
  | _ => none
def evJ (k j e : Nat) (b : Int32) : List Int32 → Option (Option Int32 ⊕ (Nat × List Int32))
  | x :: s => if x = b then (if k < j ∧ j ≤ e then some (.inr (j, x :: s)) else none) else some (.inr (k + 1, s))
  | [] => none
def evS (cd : Nat → Nat) (V : Nat → Int32) (e k : Nat) (st : List Int32) : Option (Option Int32 ⊕ (Nat × List Int32)) :=
  if e ≤ k then (match st.getLast? with
    | some v => some (.inl (some v))
    | none => none)
  else if cd k / uN = 0 then some (.inr (k + 1, nI (cd k % uN) :: st))
  else if cd k / uN = 1 then (if cd k % uN < 10 then some (.inr (k + 1, V (cd k % uN) :: st)) else none)
  else if cd k / uN = 10 then (match st with
    | x :: s => some (.inr (k + 1, (1 - x) :: s))
    | [] => none)
  else if cd k / uN = 11 then evJ k (cd k % uN) e 0 st
  else if cd k / uN = 12 then evJ k (cd k % uN) e 1 st
  else evO (cd k / uN) k st
def evR (cd : Nat → Nat) (V : Nat → Int32) (e : Nat) : Nat → Nat → List Int32 → Option (Option Int32)
  | 0, _, _ => none
  | f + 1, k, st => match evS cd V e k st with
    | some (.inl r) => some r
    | some (.inr (k', st')) => evR cd V e f k' st'
    | none => none
def He (cd : Nat → Nat) (V : Nat → Int32) (e k : Nat) (st : List Int32) (r : Option Int32) : Prop := ∃ f, evR cd V e f k st = some r
theorem He_s {cd : Nat → Nat} {V : Nat → Int32} {e k k' : Nat} {st st' : List Int32} {r : Option Int32} (h : evS cd V e k st = some (.inr (k', st'))) (g : He cd V e k' st' r) : He cd V e k st r := by
  obtain ⟨f, g⟩ := g
  exact ⟨f + 1, by unfold evR; rw [h]; exact g⟩
theorem He_e {cd : Nat → Nat} {V : Nat → Int32} {e k : Nat} {st : List Int32} {r : Option Int32} (h : evS cd V e k st = some (.inl r)) : He cd V e k st r := ⟨1, by unfold evR; rw [h]⟩
/-- the codes C from place b on come to F -/
def Sg (C : List Nat) (b : Nat) (F : VF) : Prop := ∀ (cd : Nat → Nat) (V : Nat → Int32) (e : Nat), (∀ i z, C[i]? = some z → cd (b + i) = z) → b + C.length ≤ e → ∀ st r, (match F V with
  | some v => He cd V e (b + C.length) (v :: st) r
  | none => r = none) → He cd V e b st r
theorem Sg_num {v b : Nat} (h : v < uN) : Sg [v] b (fun _ => some (nI v)) := by
  intro cd V e hc he st r hr
  have e0 := hc 0 v rfl
  rw [Nat.add_zero] at e0
  have l : b + 1 ≤ e := he
  refine He_s (k' := b + 1) (st' := nI v :: st) ?_ hr
  unfold evS
  rw [if_neg (by omega), e0, if_pos (Nat.div_eq_of_lt h), Nat.mod_eq_of_lt h]
theorem Sg_let {i b : Nat} (h : i < 10) : Sg [uN + i] b (fun V => some (V i)) := by
  intro cd V e hc he st r hr
  have e0 := hc 0 _ rfl
  rw [Nat.add_zero] at e0
  have l : b + 1 ≤ e := he
  have d1 : (uN + i) / uN = 1 := by unfold uN; omega
  have d2 : (uN + i) % uN = i := by unfold uN; omega
  refine He_s (k' := b + 1) (st' := V i :: st) ?_ hr
  unfold evS
  rw [if_neg (by omega), e0, d1, d2, if_neg (by decide), if_pos rfl, if_pos h]
/-- two values and what is reckoned of them -/
def bF (op : Nat) (F1 F2 : VF) : VF := fun V => match F1 V with
  | none => none
  | some x => match F2 V with
    | none => none
    | some y => if (op = 5 ∨ op = 6) ∧ y = 0 then none else some (rck op x y)
theorem Sg_seq {C1 C2 : List Nat} {b : Nat} {F1 F : VF} (h1 : Sg C1 b F1) (hN : ∀ V, F1 V = none → F V = none) (h2 : ∀ (cd : Nat → Nat) (V : Nat → Int32) (e : Nat), (∀ i z, C2[i]? = some z → cd (b + C1.length + i) = z) → b + C1.length + C2.length ≤ e → ∀ x, F1 V = some x → ∀ st r, (match F V with
    | some v => He cd V e (b + C1.length + C2.length) (v :: st) r
    | none => r = none) → He cd V e (b + C1.length) (x :: st) r) : Sg (C1 ++ C2) b F := by
  intro cd V e hc he st r hr
  rw [List.length_append, ← Nat.add_assoc] at he hr
  refine h1 cd V e (fun i z hz => hc i z ?_) (by omega) st r ?_
  · rw [List.getElem?_append_left (List.getElem?_eq_some_iff.mp hz).1]
    exact hz
  · cases e1 : F1 V with
    | none =>
      rw [hN V e1] at hr
      exact hr
    | some x =>
      refine h2 cd V e (fun i z hz => ?_) he x e1 st r hr
      rw [Nat.add_assoc]
      refine hc _ z ?_
      rw [List.getElem?_append_right (by omega), ← hz]
      congr 1
      omega
theorem Sg_bin {C1 C2 : List Nat} {b op : Nat} {F1 F2 : VF} (ho : 2 ≤ op ∧ op ≤ 9) (h1 : Sg C1 b F1) (h2 : Sg C2 (b + C1.length) F2) : Sg (C1 ++ C2 ++ [uN * op]) b (bF op F1 F2) := by
  have d1 : uN * op / uN = op := Nat.mul_div_cancel_left op (by decide)
  rw [List.append_assoc]
  refine Sg_seq h1 (fun V e1 => by unfold bF; rw [e1]) (fun cd V e hc he x e1 st r hr => ?_)
  rw [List.length_append] at he hr
  have hl1 : ([uN * op] : List Nat).length = 1 := rfl
  rw [hl1] at he hr
  refine h2 cd V e (fun i z hz => hc i z ?_) (by omega) (x :: st) r ?_
  · rw [List.getElem?_append_left (List.getElem?_eq_some_iff.mp hz).1]
    exact hz
  · unfold bF at hr
    rw [e1] at hr
    dsimp only at hr
    cases e2 : F2 V with
    | none =>
      rw [e2] at hr
      exact hr
    | some y =>
      rw [e2] at hr
      dsimp only at hr ⊢
      have e0 := hc C2.length (uN * op) (by
        rw [List.getElem?_append_right (Nat.le_refl _), Nat.sub_self]
        rfl)
      have hs : evS cd V e (b + C1.length + C2.length) (y :: x :: st) = evO op (b + C1.length + C2.length) (y :: x :: st) := by
        unfold evS
        rw [if_neg (by omega), e0, d1, if_neg (by omega), if_neg (by omega), if_neg (by omega), if_neg (by omega), if_neg (by omega)]
      by_cases c : (op = 5 ∨ op = 6) ∧ y = 0
      · rw [if_pos c] at hr
        rw [show r = none from hr]
        refine He_e ?_
        rw [hs]
        unfold evO
        dsimp only
        rw [if_pos c]
      · rw [if_neg c] at hr
        refine He_s (k' := b + C1.length + C2.length + 1) (st' := rck op x y :: st) ?_ (by rw [Nat.add_assoc (b + C1.length)]; exact hr)
        rw [hs]
        unfold evO
        dsimp only
        rw [if_neg c, if_pos ho]
def nF (F : VF) : VF := fun V => match F V with
  | none => none
  | some x => some (1 - x)
theorem Sg_not {C : List Nat} {b : Nat} {F : VF} (h : Sg C b F) : Sg (C ++ [10 * uN]) b (nF F) := by
  refine Sg_seq h (fun V e1 => by unfold nF; rw [e1]) (fun cd V e hc he x e1 st r hr => ?_)
  have l : b + C.length + 1 ≤ e := he
  have e0 := hc 0 _ rfl
  rw [Nat.add_zero] at e0
  unfold nF at hr
  rw [e1] at hr
  refine He_s (k' := b + C.length + 1) (st' := (1 - x) :: st) ?_ hr
  unfold evS
  rw [if_neg (by omega), e0, show 10 * uN / uN = 10 from rfl, if_neg (by decide), if_neg (by decide), if_pos rfl]
/-- the second only if the first isn't v -/
def jF (v : Int32) (F1 F2 : VF) : VF := fun V => match F1 V with
  | none => none
  | some x => if x = v then some x else F2 V
theorem Sg_jmp {C1 C2 : List Nat} {b op : Nat} {F1 F2 : VF} {v : Int32} (ho : (op = 11 ∧ v = 0) ∨ (op = 12 ∧ v = 1)) (hb : b + C1.length + 1 + C2.length < uN) (h1 : Sg C1 b F1) (h2 : Sg C2 (b + C1.length + 1) F2) : Sg (C1 ++ (op * uN + (b + C1.length + 1 + C2.length)) :: C2) b (jF v F1 F2) := by
  refine Sg_seq h1 (fun V e1 => by unfold jF; rw [e1]) (fun cd V e hc he x e1 st r hr => ?_)
  rw [List.length_cons] at he hr
  have e0 := hc 0 _ rfl
  rw [Nat.add_zero] at e0
  generalize hp : b + C1.length + 1 + C2.length = p at hb e0
  have d1 : (op * uN + p) / uN = op := by
    rw [Nat.add_comm, Nat.add_mul_div_right _ _ (show 0 < uN by decide), Nat.div_eq_of_lt hb, Nat.zero_add]
  have d2 : (op * uN + p) % uN = p := by
    rw [Nat.add_comm, Nat.add_mul_mod_self_right, Nat.mod_eq_of_lt hb]
  have hs : evS cd V e (b + C1.length) (x :: st) = evJ (b + C1.length) p e v (x :: st) := by
    unfold evS
    rw [if_neg (by omega), e0, d1, d2]
    rcases ho with ⟨rfl, rfl⟩ | ⟨rfl, rfl⟩
    · rw [if_neg (by decide), if_neg (by decide), if_neg (by decide), if_pos rfl]
    · rw [if_neg (by decide), if_neg (by decide), if_neg (by decide), if_neg (by decide), if_pos rfl]
  unfold jF at hr
  rw [e1] at hr
  dsimp only at hr
  by_cases c : x = v
  · rw [if_pos c] at hr
    refine He_s (k' := p) (st' := x :: st) ?_ (by rw [← hp, Nat.add_assoc (b + C1.length), Nat.add_comm 1]; exact hr)
    rw [hs]
    unfold evJ
    dsimp only
    rw [if_pos c, if_pos (by omega)]
  · rw [if_neg c] at hr
    refine He_s (k' := b + C1.length + 1) (st' := st) ?_ ?_
    · rw [hs]
      unfold evJ
      dsimp only
      rw [if_neg c]
    · refine h2 cd V e (fun i z hz => ?_) (by omega) st r ?_
      · have := hc (i + 1) z (by rw [List.getElem?_cons_succ]; exact hz)
        rw [← this]
        congr 1
        omega
      · rw [show b + C1.length + 1 + C2.length = b + C1.length + (C2.length + 1) by omega]
        exact hr
