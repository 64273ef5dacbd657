-- the words that throwing needs, beyond the table's
abbrev xU : String := "java/lang/UnsupportedOperationException"
abbrev xA : String := "java/lang/IllegalArgumentException"
abbrev xI : String := "java/lang/IndexOutOfBoundsException"
abbrev tT : String := "java/lang/Throwable"
abbrev dS : String := "[Ljava/lang/StackTraceElement;"
abbrev dL : String := "Ljava/util/List;"
def SR (U : State) : Prop := ((Cond.castable xU xU).before #[] U = true ∧ (Cond.castable xA xA).before #[] U = true ∧ (Cond.castable xI xI).before #[] U = true) ∧
  ((Cond.laysStatic tT "UNASSIGNED_STACK" dS).before #[] U = true ∧ (Cond.laysStatic tT "SUPPRESSED_SENTINEL" dL).before #[] U = true) ∧
  (Cond.isRef (.static tT "UNASSIGNED_STACK" dS)).before #[] U = true ∧ (Cond.isRef (.static tT "SUPPRESSED_SENTINEL" dL)).before #[] U = true
theorem SR.move {s U : State} (h : SR s) (hW : s.WarmedH U.vm) (hk : KeepS s U) : SR U := by
  obtain ⟨⟨a1, a2, a3⟩, ⟨b1, b2⟩, c1, c2⟩ := h
  have S := State.Shifted.of_warmed hW
  have w : ∀ {c : Cond}, c.keepsFace = true → c.before #[] s = true → c.before #[] (s.setVm U.vm) = true := fun {c} h1 h2 => Cond.before_shiftedFace S c h1 h2
  have hk' : KeepS (s.setVm U.vm) U := hk
  have l1 := w (c := Cond.laysStatic tT "UNASSIGNED_STACK" dS) rfl b1
  have l2 := w (c := Cond.laysStatic tT "SUPPRESSED_SENTINEL" dL) rfl b2
  exact ⟨⟨w (c := Cond.castable xU xU) rfl a1, w (c := Cond.castable xA xA) rfl a2, w (c := Cond.castable xI xI) rfl a3⟩, ⟨ls_tr (V := s.setVm U.vm) rfl hk' l1, ls_tr (V := s.setVm U.vm) rfl hk' l2⟩,
    ir_tr (V := s.setVm U.vm) rfl hk' l1 (w (c := Cond.isRef (.static tT "UNASSIGNED_STACK" dS)) rfl c1), ir_tr (V := s.setVm U.vm) rfl hk' l2 (w (c := Cond.isRef (.static tT "SUPPRESSED_SENTINEL" dL)) rfl c2)⟩
