def Rel0 : (Int32 → Option QT) → (Int32 → Option QT) → QA → QA → QL → Prop := fun _ _ _ _ _ => False
theorem sim_all : SimAll Rel0 := by
  sorry
def Bo0 : QA := fun _ _ => 0
theorem ini_copy : f_X2_copy 1001 1002 (qu (qu (qu (qu iniB 1001 12 107) 1001 2 (-1)) 1001 9 3) 1001 13 (-1)) = some Bo0 := by
  sorry
theorem ini_rel : Rel0 T0 Ti0 (qbe2 iniA) Bo0 iniL := by
  sorry
