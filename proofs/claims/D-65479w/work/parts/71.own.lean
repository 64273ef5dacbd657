-- the words of an exception's making
abbrev upN : List String := ["java/lang/RuntimeException", "java/lang/Exception"]
def srL (X : String) : List Cond := [.castable X X, .laysStatic tT "UNASSIGNED_STACK" dS, .laysStatic tT "SUPPRESSED_SENTINEL" dL, .isRef (.static tT "UNASSIGNED_STACK" dS), .isRef (.static tT "SUPPRESSED_SENTINEL" dL)]
theorem own_A : ∀ a ∈ Bundle.ownAtoms0 "StateExplore" 92 xA upN, a ∈ TT ∨ a ∈ srL xA := by decide +kernel
theorem own_I : ∀ a ∈ Bundle.ownAtoms0 "StateExplore" 95 xI upN, a ∈ TT ∨ a ∈ srL xI := by decide +kernel
theorem own_U : ∀ a ∈ Bundle.ownAtoms0 "StateExplore" 98 xU upN, a ∈ TT ∨ a ∈ srL xU := by decide +kernel
