-- words of the statics that exceptions' constructors read
/-- U's statics are V's -/
def KeepS (V U : State) : Prop := ∀ (a : Nat) (cell : Cell), V.heap[a]? = some cell → cell.vm.isStatics = true → U.heap[a]? = some cell
theorem ls_tr {args : Array Value} {U V : State} {o n d : String} (hvm : U.vm = V.vm) (hh : KeepS V U) (h : (Cond.laysStatic o n d).before args V = true) : (Cond.laysStatic o n d).before args U = true := by
  obtain ⟨c, k, i, f, a, cell, h1, h2, h3, h4, h5, h6, h7, h8, h9⟩ := Cond.laysStatic_spec h
  have e1 : U.vm.findClass o = some c := by rw [hvm]; exact h1
  have e2 : U.fieldFound? o n d = some (c, k, i, f) := by
    rw [← h2]; unfold State.fieldFound?; rw [hvm]
  have e5 := hh a cell h5 h6
  show (Cond.laysStatic o n d).holds args U none U [] = true
  simp [Cond.holds, Cond.value, e1, e2, h3, h4, e5, h6, h7, h8, h9]
theorem ir_tr {args : Array Value} {U V : State} {o n d : String} (hvm : U.vm = V.vm) (hh : KeepS V U) (hl : (Cond.laysStatic o n d).before args V = true) (h : (Cond.isRef (.static o n d)).before args V = true) : (Cond.isRef (.static o n d)).before args U = true := by
  obtain ⟨c, k, i, f, a, cell, h1, h2, h3, h4, h5, h6, h7, h8, h9⟩ := Cond.laysStatic_spec hl
  have e2 : U.fieldFound? o n d = some (c, k, i, f) := by
    rw [← h2]; unfold State.fieldFound?; rw [hvm]
  have e5 := hh a cell h5 h6
  have v1 : (Term.static o n d).eval args V none [] V = cell.slots[f.slot]? := by simp [Term.eval, State.fieldNamed?, h2, h3, h4, h5, h6]
  have v2 : (Term.static o n d).eval args U none [] U = cell.slots[f.slot]? := by simp [Term.eval, State.fieldNamed?, e2, h3, h4, e5, h6]
  have h : (Cond.isRef (.static o n d)).holds args V none V [] = true := h
  show (Cond.isRef (.static o n d)).holds args U none U [] = true
  simp only [Cond.holds, Cond.value] at h ⊢
  rw [v1] at h
  rw [v2]; exact h
