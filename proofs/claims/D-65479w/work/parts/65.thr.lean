-- calls whose callee throws
/-- how an invocation that threw has left things -/
def TE (first : State) (o : Outcome) (t : State) (L : List Loc) (k n : Nat) : Prop :=
  (∃ x, o = .threw x) ∧ first.WarmedH t.vm ∧ first.sameButNew ({ t with vm := first.vm } : State) L k n
/-- a contract of an invocation that throws -/
def MetT (l : Launch) (y : MethodName) (ws : List Cond) (rm : Room) (Pc : Array Value → State → Prop) (Qc : Array Value → State → Addr → State → Prop) (mc ms : Nat) (free : Addr → Prop) : Prop :=
  MetFree l y (headSpec ws rm) Pc (fun _ _ _ _ _ => True) (fun a st o t => ∃ x, o = .threw x ∧ Qc a st x t ∧ ∃ L, TE st o t L mc ms ∧ ∀ q ∈ L, free q.base)
section THR
variable {p : Program} {l : Launch} {e : Env} {R : Room} {s : State} {m : MethodId} {args : Array Value} {below : List Frame} {meth : Method} {c : Code} {T : State} {locs : List Loc} {cells slots : Nat}
theorem thr_core {U : State} {y : MethodName} {ws : List Cond} {rm : Room} {Pc : Array Value → State → Prop} {Qc : Array Value → State → Addr → State → Prop} {mc ms : Nat} {free : Addr → Prop} {bytes : ByteArray} {maxL : Nat} {ret : Option FieldType}
    (X : Stand p l e R s m args below meth c U locs cells slots) (hM : MetT l y ws rm Pc Qc mc ms free) {g : JFrame} {mk : MethodId} {a : Array Value} {ig : Instr} {len W : Nat}
    (hws : ∀ w ∈ ws, w.before a U = true) (hcode : (Cond.code y bytes maxL ret).before a U = true) (hini : (Cond.initialized y.cls).before a U = true) (hn : U.methodNamed? y = some mk)
    (hg : g.method = m) (hsize : g.locals.size = c.maxLocals) (hdg : decode c.code g.pc = .ok (ig, len)) (hW : 2 * g.monitorRoom + (g.stack.map fun v => v.category).sum ≤ W)
    (hfr : rm.frames + 1 ≤ R.frames) (hlo : W + (maxL + 11) + rm.locals ≤ R.locals) (hc : cells + rm.cells ≤ R.cells) (hs : slots + rm.slots ≤ R.slots) (hP : Pc a (U.calling g mk a)) :
    ∃ (x : Addr) (t T' : State) (L : List Loc), Stand p l e R s m args below meth c T' (locs ++ L) (cells + mc) (slots + ms) ∧ T'.heap = t.heap ∧ Qc a (U.calling g mk a) x t ∧ (∀ q ∈ L, free q.base) ∧
      Steps p.tables e below (doInvoke e (U.setTop g) [] mk a).1 ((T'.setTop g).pushFrame (.throwing x)) := by
  obtain ⟨methY, cY, hmY, hcY, -, hlY, -, -, -, -⟩ := Cond.code_spec hn hcode
  obtain ⟨kY, hkY, -⟩ := className_of_methodNamed hn
  have hinitY : kY.init = .initialized := Cond.initialized_spec (findClass_of_methodNamed hn) hkY hini
  have h : At U g.method c below := by rw [hg]; exact X.here
  have happ : (headSpec ws rm).appliesLoose y e.platform (U.calling g mk a) = true :=
    Spec.appliesLoose_calling (g := g) h hdg hn hkY hinitY
      (X.room_calling (g := g) (R' := (headSpec ws rm).room) hsize hmY hcY hfr (by rw [hlY]; show _ + rm.locals ≤ _; omega) hc hs) (atoms_intro hws)
  obtain ⟨mid, hmid⟩ := h.above
  have hfr2 : (U.setTop g).frames = (.java g :: mid) ++ below := by rw [State.frames_setTop' g h.top, hmid]; rfl
  obtain ⟨o, s₂, hsteps, -, hend, hq⟩ := Steps.callFree hM p X.admits X.cas X.clock (acts := []) hfr2 happ hP trivial
  obtain ⟨x, rfl, hq1, L, ⟨-, hW2, hsame⟩, hL⟩ := hq
  obtain ⟨g₀, hr⟩ := X.frames_eq
  have hend2 : Ended s₂ (.java g :: below) (.threw x) := by
    rw [State.frames_setTop' g h.top, hr] at hend
    exact hend
  obtain ⟨T', X', hW', hs', ht⟩ := X.outOfThrown hg (mk := mk) (a := a) hend2 hW2 hsame
  refine ⟨x, s₂, T', L, X', ?_, hq1, hL, ?_⟩
  · rw [ht]; rfl
  · rw [← ht]; exact hsteps
end THR
