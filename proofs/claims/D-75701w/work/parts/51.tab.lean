set_option maxRecDepth 100000
theorem facing_f : ∀ p : Fin 48, ∀ g : Fin 63, mX0_facing (nI p.val) (nI g.val) = some (on1 (fcg p.val g.val)) := by decide +kernel
theorem against_f : ∀ p : Fin 48, ∀ g : Fin 63, mX5_against (nI p.val) (sA g.val) (sB g.val) = some (on1 (fcg p.val g.val)) := by decide +kernel
