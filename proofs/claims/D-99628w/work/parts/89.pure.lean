/-! stubs: what the plain law owes -/
def g_Rel : Nat → g_S → g_S → Prop := fun _ _ _ => True
theorem g_rel0 : g_Rel 0 g_iC g_iM := trivial
theorem g_prs : g_Prs g_Rel := sorry
