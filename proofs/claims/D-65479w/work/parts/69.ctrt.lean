-- contracts of methods that throw
theorem va_ns {D : va_G} {cl : List vw_C} {q : Nat × va_E} {H : Heap} (h : va_at D cl q H) {cell : Cell} (hc : H[q.1]? = some cell) : cell.vm.isStatics = false := by
  obtain ⟨a, e⟩ := q
  cases e with
  | inl e =>
    have h : H[a]? = some (vp_cell e.1 e.2) := h
    have hc : H[a]? = some cell := hc
    rw [hc] at h
    cases h
    obtain ⟨e1, n, f⟩ := e
    rcases f with f | f | f | f | f <;> rfl
  | inr o =>
    obtain ⟨r, -, h⟩ := h
    obtain ⟨c2, h1, h2⟩ := h
    have hc : H[a]? = some cell := hc
    rw [hc] at h1
    cases h1
    rw [h2.2.1]; rfl
def QT {S : Type} (post : S → Prop) (w1 : S → va_W) (cls : String) (G : GG) (A : Nat → Prop) : Array Value → State → Addr → State → Prop :=
  fun _ st x t => (∃ u, post u ∧ PO G A (w1 u) t) ∧ va_F A st t ∧ ∃ ce : Cell, t.heap[x]? = some ce ∧ st.vm.findClass cls = some ce.cls ∧ ce.vm.isStatics = false
def PRT (G : GG) (sz : Nat) (w : va_W) (U : State) : Prop := PR G sz w U ∧ SR U
/-- a contract of a method that throws an exception of that class -/
def CtrT {S : Type} (l : Launch) (y : MethodName) (b : ByteArray) (nL : Nat) (ret : Option FieldType) (L mc ms : Nat) (G : GG) (av : List Value) (w0 : va_W) (cls : String) (post : S → Prop) (w1 : S → va_W) : Prop :=
  ∀ sz : Nat, MetT l y (.code y b nL ret :: TT) (rmL L mc ms) (va_Pc av (PRT G sz w0)) (QT post w1 cls G (va_A w0 sz)) mc ms (va_A w0 sz)
def MQT (below : List Frame) (Qc : Array Value → State → Addr → State → Prop) (a : Array Value) (s : State) (mc ms : Nat) (free : Addr → Prop) : State → Prop := fun t =>
  ∃ x, t.status = .running ∧ Ended t below (.threw x) ∧ Qc a s x t ∧ ∃ L, TE s (.threw x) t L mc ms ∧ ∀ q ∈ L, free q.base
/-- A touches no statics of s -/
def NS (s : State) (A : Nat → Prop) : Prop := ∀ (q : Nat) (cell : Cell), s.heap[q]? = some cell → cell.vm.isStatics = true → ¬ A q
theorem CtrT.start {S : Type} {l : Launch} {y : MethodName} {b : ByteArray} {nL : Nat} {ret : Option FieldType} {L mc ms : Nat} {G : GG} {av : List Value} {w0 : va_W} {cls : String} {post : S → Prop} {w1 : S → va_W}
    (hy : plainName y.cls = true) (hav : (lg_sl av).length ≤ nL)
    (body : ∀ (p : Program) (e : Env) (s : State) (m : MethodId) (below : List Frame) (meth : Method) (c : Code) (A : Nat → Prop) (ls : Array Slot),
      Cx p s m meth c b nL ret av.toArray y.cls → meth.name = y.name → KK G s → (∀ q, s.heap.size ≤ q → A q) → lv_has ls nL (lv_args 0 av) → WW G A s w0 s.heap [] → SR s → NS s A → c.exceptionTable.isEmpty = true →
      W p l e (rmL L mc ms) s m av.toArray below meth c s.heap [] 0 0 (MQT below (QT post w1 cls G A) av.toArray s mc ms A) (F0 m 0 ls [])) : CtrT l y b nL ret L mc ms G av w0 cls post w1 := by
  intro sz
  refine MetFree.of_bodyS (code := b) (maxLocals := nL) (ret := ret) hy ?_ ?_
  · intro args s m h hn
    obtain ⟨meth, c, h1, h2, h3, h4, h5, h6, -, -⟩ := Cond.code_spec hn (atoms_spec (ws := .code y b nL ret :: TT) h _ List.mem_cons_self)
    exact ⟨meth, c, h1, h2, h3, h4, h5, h6⟩
  · intro p e s m args below meth c s₁ B hml hv _
    obtain ⟨rfl, ⟨rfl, hP, hD0, hK⟩, hS⟩ := hv
    have hts := atoms_spec (ws := .code y b nL ret :: TT) B.pre
    have hown : s.vm.findClass y.cls = some m.cls := findClass_of_methodNamed B.named
    have hD := hD0.self (sz := s.heap.size)
    have hh0 : s₁.heap = s.heap := by rw [B.state]; rfl
    have hNS : NS s (va_A w0 s.heap.size) := by
      intro q cell hc hst hA
      rcases hA with ⟨k, e9, hk⟩ | hA
      · rw [va_ns (hP k (q, e9) hk) hc] at hst; cases hst
      · have := (Array.getElem?_eq_some_iff.mp hc).1; omega
    have hb := body p e s m below meth c _ _ ⟨B.exec, B.bytes, B.returns, B.notSynchronized, hml, hown, fun w hw => hts w (List.mem_cons_of_mem _ hw)⟩ (name_of_methodNamed B.named B.method).1 hK (fun q h => Or.inr h) (lv_entry av hav) ⟨hP, hD, va_S.rf⟩ hS hNS (B.noHandlers (hts _ List.mem_cons_self))
    rw [← lg_entry_eq] at hb
    obtain ⟨t, a1, x, b1, b2, b3, b4⟩ := hb s₁ hh0 (Stand.of_body B)
    exact ⟨t, .threw x, a1, b1, b2, x, rfl, b3, b4⟩
