/-! tour: the guide's letters -/
set_option maxRecDepth 100000
theorem ixs_t : ∀ c : Fin 256, mJ0_indexOf_s2 (nI c.val) = some (match lS c.val with | some d => nI d | none => -1) := by decide +kernel
theorem X_ixs {c : Nat} (h : c < 256) : mJ0_indexOf_s2 (nI c) = some (match lS c with | some d => nI d | none => -1) := ixs_t ⟨c, h⟩
/-- a step from a place of the grid, as the relation of the kept tour has it -/
theorem stp_t : ∀ g : Fin 63, ∀ d : Fin 4, ∃ v : Fin 64, mX0_stepped (nI g.val) (nI d.val) = some (nI v.val - 1) ∧ (if nI v.val - 1 = (-1 : Int32) then nI g.val else nI v.val - 1) = nI (stc g.val (nI (sL d.val))) ∧ stc g.val (nI (sL d.val)) < 63 := by decide +kernel
theorem stc_4 (g : Nat) : stc g (nI (sL 4)) = 31 := rfl
