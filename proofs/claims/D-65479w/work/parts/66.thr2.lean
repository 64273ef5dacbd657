-- calls whose callee throws: static and virtual
section THR2
variable {p : Program} {l : Launch} {e : Env} {R : Room} {s : State} {m : MethodId} {args : Array Value} {below : List Frame} {meth : Method} {c : Code} {H : Heap} {locs : List Loc} {cells slots : Nat} {Q : State → Prop}
def RunT (p : Program) (l : Launch) (e : Env) (R : Room) (s : State) (m : MethodId) (args : Array Value) (below : List Frame) (meth : Method) (c : Code) (H : Heap) (locs : List Loc) (cells slots mc ms : Nat) (g : JFrame) (rest : List Value) (Qa : State → Addr → State → Prop) (free : Addr → Prop) : Prop :=
  ∀ T : State, T.heap = H → Stand p l e R s m args below meth c T locs cells slots → ∃ (x : Addr) (st₀ t T' : State) (L : List Loc), st₀.heap = H ∧ s.WarmedH st₀.vm ∧ Stand p l e R s m args below meth c T' (locs ++ L) (cells + mc) (slots + ms) ∧ (∀ q ∈ L, free q.base) ∧ T'.heap = t.heap ∧ Qa st₀ x t ∧
    Steps p.tables e below (T.setTop g) ((T'.setTop { g with stack := rest }).pushFrame (.throwing x))
variable {y : MethodName} {bytes cc : ByteArray} {maxL nL mc ms n index : Nat} {ret : Option FieldType} {ws : List Cond} {rm : Room} {Pc : Array Value → State → Prop} {Qc : Array Value → State → Addr → State → Prop} {free : Addr → Prop} {Ts : List Cond} {own C : String} {b : Addr} {As rest : List Value} {g : JFrame}
theorem run_ST (S : CallFix p m c cc nL s args Ts own) (hM : MetT l y ws rm Pc Qc mc ms free) (cw : CallB R s args own index y bytes maxL ret ws rm mc ms n ∧ (Cond.static y).before args s = true) (hp : PreS s H Pc As)
    (hg : g.method = m) (hn : As.length = n) (hsize : g.locals.size = nL) (hstack : g.stack = As.reverse ++ rest) (hW : 2 * g.monitorRoom + (rest.map fun v => v.category).sum ≤ 8) (hdg : decode cc g.pc = .ok (.invokestatic index, 3)) (hf : cells + mc ≤ R.cells ∧ slots + ms ≤ R.slots) :
    RunT p l e R s m args below meth c H locs cells slots mc ms g rest (Qc As.toArray) free := by
  obtain ⟨⟨hrc, hrs, hfr, hlo, hws, hcw, hcode, hini, hy, hlen, hl⟩, hstt⟩ := cw
  obtain ⟨hx, hb, hml, ho, -⟩ := S
  intro T hT X
  obtain ⟨mk, hnamed⟩ := Cond.code_named hcode
  obtain ⟨methM, cM, hmethM, -, -, -, -, -, -, hsigM⟩ := Cond.code_spec hnamed hcode
  have hstatic : methM.isStatic = true := Cond.static_spec hnamed hmethM hstt
  obtain ⟨kP, hkP, -⟩ := className_of_methodNamed hnamed
  have hinitP : kP.init = .initialized := Cond.initialized_spec (findClass_of_methodNamed hnamed) hkP hini
  obtain ⟨vm₁, X₁, hstep₁⟩ := X.invokestatic hx ho hl hnamed hmethM hstatic hkP hinitP hy (g := g) hg (argsL := As) (rest := rest) (hn.trans (hlen _ hsigM)) hstack (by rw [hb]; exact hdg)
  obtain ⟨x, t, T', L, X', e1, hq, hL, st⟩ := thr_core (bytes := bytes) (maxL := maxL) (ret := ret) X₁ hM (g := { g with stack := rest }) (mk := mk) (a := As.toArray) (ig := .invokestatic index) (len := 3) (W := 8)
    (fun w h => hws w h _ _ X₁.warmed) (hws _ hcw _ _ X₁.warmed) (word_at X₁.warmed (Or.inl (by first | rfl | simp [Cond.onTables, Cond.keeps, Cond.steady])) hini) (X₁.named hnamed) hg (hsize.trans hml.symm) (by rw [hb]; exact hdg) hW hfr hlo (by rw [hrc]; exact hf.1) (by rw [hrs]; exact hf.2)
    (hp.1 _ _ _ _ (hp.2 (T.setVm vm₁) hT X₁.warmed))
  exact ⟨x, (T.setVm vm₁).calling { g with stack := rest } mk As.toArray, t, T', L, hT, X₁.warmed, X', hL, e1, hq, hstep₁ _ fun acts => by rw [doInvoke_state]; exact st⟩
theorem run_VT (S : CallFix p m c cc nL s args Ts own) (hM : MetT l y ws rm Pc Qc mc ms free) (cw : CallW R s args own C index y bytes maxL ret ws rm mc ms n) (hini : (Cond.initialized y.cls).before args s = true) (hp : PreV s H C b Pc As)
    (hg : g.method = m) (hn : As.length = n) (hsize : g.locals.size = nL) (hstack : g.stack = As.reverse ++ .ref b :: rest) (hW : 2 * g.monitorRoom + (rest.map fun v => v.category).sum ≤ 8) (hdg : decode cc g.pc = .ok (.invokevirtual index, 3)) (hf : cells + mc ≤ R.cells ∧ slots + ms ≤ R.slots) :
    RunT p l e R s m args below meth c H locs cells slots mc ms g rest (Qc (Value.ref b :: As).toArray) free := by
  obtain ⟨⟨hrc, hrs, hfr, hlo, hws, hcw, hcode, -, hy, hlen, hl⟩, hinst, hsel⟩ := cw
  obtain ⟨hx, hb, hml, ho, -⟩ := S
  obtain ⟨hbl, ⟨cellB, hcB, hoB, hcls⟩, hPc⟩ := hp
  intro T hT X
  obtain ⟨mk, methM, hnamed, hmethM, hstM, habM⟩ := Cond.instanceMethod_spec hinst
  obtain ⟨methM', cM, hmethM', -, -, -, -, -, -, hsigM⟩ := Cond.code_spec hnamed hcode
  cases hmethM.symm.trans hmethM'
  obtain ⟨c2, r2, m2, q1, q2, q3, q4, kP, hkP, hkPi⟩ := Cond.selects_spec hsel
  cases hcls.symm.trans q1
  cases (State.methodFound?_of_named hnamed hy).symm.trans q2
  cases hnamed.symm.trans q3
  have hselP : selectMethod e.platform s.vm cellB.cls mk = .method mk := by rw [Launch.admits_selectMethod X.admits]; exact q4
  obtain ⟨vm₁, X₁, hstep₁⟩ := X.invokevirtual hx ho hl hnamed hmethM hstM hkP hkPi hy (a := b) (cell := cellB) (by rw [hT]; exact hcB)
    (fun z h => by rw [h] at hoB; cases hoB) hselP hmethM habM hkP hkPi (g := g) hg (argsL := As) (rest := rest) (hn.trans (hlen _ hsigM)) hstack (by rw [hb]; exact hdg)
  obtain ⟨x, t, T', L, X', e1, hq, hL, st⟩ := thr_core (bytes := bytes) (maxL := maxL) (ret := ret) X₁ hM (g := { g with stack := rest }) (mk := mk) (a := (Value.ref b :: As).toArray) (ig := .invokevirtual index) (len := 3) (W := 8)
    (fun w h => hws w h _ _ X₁.warmed) (hws _ hcw _ _ X₁.warmed) (word_at X₁.warmed (Or.inl (by first | rfl | simp [Cond.onTables, Cond.keeps, Cond.steady])) hini) (X₁.named hnamed) hg (hsize.trans hml.symm) (by rw [hb]; exact hdg) hW hfr hlo (by rw [hrc]; exact hf.1) (by rw [hrs]; exact hf.2)
    (hbl _ _ _ _ (hPc (T.setVm vm₁) hT X₁.warmed))
  exact ⟨x, (T.setVm vm₁).calling { g with stack := rest } mk (Value.ref b :: As).toArray, t, T', L, hT, X₁.warmed, X', hL, e1, hq, hstep₁ _ fun acts => by rw [doInvoke_state]; exact st⟩
end THR2
