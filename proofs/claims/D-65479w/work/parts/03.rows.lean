-- own rows over the kit: worlds with fixed array classes, contracts, calls with the frame, Nat forms of the int rows
abbrev GG : Type := va_G × ClassId × ClassId × ClassId × ClassId
abbrev tyG (G : GG) : List (ClassId × FieldType) := [(G.2.1, .int), (G.2.2.1, .long), (G.2.2.2.1, .boolean), (G.2.2.2.2, .object "StateExplore$Rule")]
abbrev aI (G : GG) (a n : Nat) (f : Nat → Int32) : Nat × va_E := (a, .inl (G.2.1, n, .inl f))
abbrev aJ (G : GG) (a n : Nat) (f : Nat → Int64) : Nat × va_E := (a, .inl (G.2.2.1, n, .inr (.inl f)))
abbrev aZ (G : GG) (a n : Nat) (f : Nat → Int32) : Nat × va_E := (a, .inl (G.2.2.2.1, n, .inl f))
abbrev aR (G : GG) (a n : Nat) (f : Nat → Option Nat) : Nat × va_E := (a, .inl (G.2.2.2.2, n, .inr (.inr (.inr (.inr f)))))
abbrev oX (a : Nat) (fs : List Value) : Nat × va_E := (a, .inr (0, fs))
abbrev oR (a : Nat) (fs : List Value) : Nat × va_E := (a, .inr (1, fs))
abbrev oW (a : Nat) (fs : List Value) : Nat × va_E := (a, .inr (2, fs))
abbrev oM (a : Nat) (fs : List Value) : Nat × va_E := (a, .inr (3, fs))
/-- words that stay true, but not by the kit's own test: nest mates' links, the array class of rules -/
def NW (U : State) : Prop := va_AO "StateExplore$Rule" U ∧ va_Nw (.methodLinkNest "StateExplore" 54 y_W_init "StateExplore") U ∧
  va_Nw (.fieldLinkNest "StateExplore" 180 "StateExplore$Whole" "states" "[I" "StateExplore") U ∧ va_Nw (.fieldLinkNest "StateExplore" 220 "StateExplore$Whole" "codes" "[I" "StateExplore") U ∧ va_Nw (.fieldLinkNest "StateExplore" 219 "StateExplore$Whole" "size" "I" "StateExplore") U ∧
  va_Nw (.fieldLinkNest "StateExplore" 231 "StateExplore$Rule" "state" "I" "StateExplore") U ∧ va_Nw (.fieldLinkNest "StateExplore" 135 "StateExplore$Rule" "event" "I" "StateExplore") U ∧ va_Nw (.fieldLinkNest "StateExplore" 197 "StateExplore$Rule" "to" "I" "StateExplore") U ∧
  va_Nw (.fieldLinkNest "StateExplore" 139 "StateExplore$Rule" "kinds" "[I" "StateExplore") U ∧ va_Nw (.fieldLinkNest "StateExplore" 141 "StateExplore$Rule" "whom" "[I" "StateExplore") U ∧ va_Nw (.fieldLinkNest "StateExplore" 138 "StateExplore$Rule" "size" "I" "StateExplore") U
theorem NW.warm {s U : State} (hW : s.WarmedH U.vm) (h : NW s) : NW U := by
  obtain ⟨h0, h1, h2, h3, h4, h5, h6, h7, h8, h9, h10⟩ := h
  exact ⟨va_AO.moved hW.alike h0, va_Nw.warmM hW h1, va_Nw.warmF hW h2, va_Nw.warmF hW h3, va_Nw.warmF hW h4, va_Nw.warmF hW h5, va_Nw.warmF hW h6, va_Nw.warmF hW h7, va_Nw.warmF hW h8, va_Nw.warmF hW h9, va_Nw.warmF hW h10⟩
def KK (G : GG) (U : State) : Prop := va_K G.1 classes (tyG G) U ∧ NW U
theorem KK.warm {G : GG} {s U : State} (hW : s.WarmedH U.vm) (h : KK G s) : KK G U := ⟨va_K.moved hW.alike h.1, NW.warm hW h.2⟩
theorem KK.call {G : GG} {U : State} {g : JFrame} {mk : MethodId} {a : Array Value} (h : KK G U) : KK G (U.calling g mk a) := KK.warm (s := U) (U := U.calling g mk a) (State.WarmedH.refl U) h
def WW (G : GG) (A : Nat → Prop) (s : State) (ws : va_W) (H : Heap) (locs : List Loc) : Prop := va_P G.1 classes ws H ∧ va_D A ws ∧ va_S A s.heap H locs
def PR (G : GG) (sz : Nat) (w : va_W) (U : State) : Prop := U.heap.size = sz ∧ va_P G.1 classes w U.heap ∧ va_D (fun _ => True) w ∧ KK G U
def PO (G : GG) (A : Nat → Prop) (w : va_W) (t : State) : Prop := va_P G.1 classes w t.heap ∧ va_D A w
abbrev rmL (L mc ms : Nat) : Room := { frames := L, cells := mc, slots := ms, locals := 64 * L }
abbrev vI (r : Int32) : Option Value := some (.int r)
abbrev vJ (r : Int64) : Option Value := some (.long r)
abbrev vV (_ : Unit) : Option Value := none
abbrev vR (r : Nat) : Option Value := some (.ref r)
def QQ {T S : Type} (ρ : T → Option Value) (post : T → S → Prop) (w1 : S → va_W) (G : GG) (A : Nat → Prop) : Array Value → State → Outcome → State → Prop :=
  fun _ st oc t => (∃ (r : T) (u : S), oc = .returned (ρ r) ∧ post r u ∧ PO G A (w1 u) t) ∧ va_F A st t
/-- a contract: arguments, world ahead, answer and world behind; L frames deep, mc cells of ms slots -/
def Ctr {T S : Type} (ρ : T → Option Value) (l : Launch) (y : MethodName) (b : ByteArray) (nL : Nat) (ret : Option FieldType) (L mc ms : Nat) (G : GG) (av : List Value) (w0 : va_W) (post : T → S → Prop) (w1 : S → va_W) : Prop :=
  ∀ sz : Nat, Met l y (.code y b nL ret :: TT) (rmL L mc ms) (va_Pc av (PR G sz w0)) (QQ ρ post w1 G (va_A w0 sz)) mc ms (va_A w0 sz)
/-- what a walk stands on -/
def Cx (p : Program) (s : State) (m : MethodId) (meth : Method) (c : Code) (cc : ByteArray) (nL : Nat) (ret : Option FieldType) (av : Array Value) (own : String) : Prop :=
  p.tables.exec = Jvm.exec ∧ c.code = cc ∧ meth.sig.returnType = ret ∧ meth.locks = false ∧ c.maxLocals = nL ∧ s.vm.findClass own = some m.cls ∧ (∀ w ∈ TT, w.before av s = true)
theorem Ctr.start {T S : Type} {ρ : T → Option Value} {l : Launch} {y : MethodName} {b : ByteArray} {nL : Nat} {ret : Option FieldType} {L mc ms : Nat} {G : GG} {av : List Value} {w0 : va_W} {post : T → S → Prop} {w1 : S → va_W}
    (hy : plainName y.cls = true) (hav : (lg_sl av).length ≤ nL)
    (body : ∀ (p : Program) (e : Env) (s : State) (m : MethodId) (below : List Frame) (meth : Method) (c : Code) (A : Nat → Prop) (ls : Array Slot),
      Cx p s m meth c b nL ret av.toArray y.cls → meth.name = y.name → KK G s → (∀ q, s.heap.size ≤ q → A q) → lv_has ls nL (lv_args 0 av) → WW G A s w0 s.heap [] →
      W p l e (rmL L mc ms) s m av.toArray below meth c s.heap [] 0 0 (MQ below (QQ ρ post w1 G A) av.toArray s mc ms A) (F0 m 0 ls [])) : Ctr ρ l y b nL ret L mc ms G av w0 post w1 := by
  intro sz
  refine Met.ofW (cc := b) (maxL := nL) (ret := ret) hy rfl ?_
  intro p e s m args below meth c s₁ B hml hv
  obtain ⟨rfl, rfl, hP, hD0, hK⟩ := hv
  have hts := atoms_spec (ws := .code y b nL ret :: TT) B.pre
  have hown : s.vm.findClass y.cls = some m.cls := findClass_of_methodNamed B.named
  have hD := hD0.self (sz := s.heap.size)
  rw [lg_entry_eq]
  exact body p e s m below meth c _ _ ⟨B.exec, B.bytes, B.returns, B.notSynchronized, hml, hown, fun w hw => hts w (List.mem_cons_of_mem _ hw)⟩ (name_of_methodNamed B.named B.method).1 hK (fun q h => Or.inr h) (lv_entry av hav) ⟨hP, hD, va_S.rf⟩
section RET
variable {p : Program} {l : Launch} {e : Env} {R : Room} {s : State} {m : MethodId} {args : Array Value} {below : List Frame} {meth : Method} {c : Code} {H : Heap} {locs : List Loc} {cells slots mc ms : Nat} {cc : ByteArray} {pc : Nat} {ls : Array Slot} {G : GG} {A : Nat → Prop} {S : Type}
theorem r_iret {post : Int32 → S → Prop} {w1 : S → va_W} {v : Int32} (u : S) (hx : p.tables.exec = Jvm.exec) (hb : c.code = cc) (hr : meth.sig.returnType = some .int) (hlk : meth.locks = false) (hw : WW G A s (w1 u) H locs) (hp : post v u) (hc : cells ≤ mc) (hs : slots ≤ ms) (hdg : decode cc pc = .ok (.ireturn, 1)) :
    W p l e R s m args below meth c H locs cells slots (MQ below (QQ vI post w1 G A) args s mc ms A) (F0 m pc ls [.int v]) :=
  W.widen hc hs (W.iret hx hb hr (fun t ht hW => ⟨⟨v, u, rfl, hp, by rw [ht]; exact hw.1, hw.2.1⟩, hw.2.2.F ht⟩) hw.2.2.2.2 hdg hlk)
theorem r_zret {post : Int32 → S → Prop} {w1 : S → va_W} {v : Int32} (u : S) (hx : p.tables.exec = Jvm.exec) (hb : c.code = cc) (hr : meth.sig.returnType = some .boolean) (hlk : meth.locks = false) (hw : WW G A s (w1 u) H locs) (hp : post v u) (hv : narrow .boolean (.int v) = .int v) (hc : cells ≤ mc) (hs : slots ≤ ms) (hdg : decode cc pc = .ok (.ireturn, 1)) :
    W p l e R s m args below meth c H locs cells slots (MQ below (QQ vI post w1 G A) args s mc ms A) (F0 m pc ls [.int v]) :=
  W.widen hc hs (W.zret hx hb hr hv (fun t ht hW => ⟨⟨v, u, rfl, hp, by rw [ht]; exact hw.1, hw.2.1⟩, hw.2.2.F ht⟩) hw.2.2.2.2 hdg hlk)
theorem r_lret {post : Int64 → S → Prop} {w1 : S → va_W} {v : Int64} (u : S) (hx : p.tables.exec = Jvm.exec) (hb : c.code = cc) (hr : meth.sig.returnType = some .long) (hlk : meth.locks = false) (hw : WW G A s (w1 u) H locs) (hp : post v u) (hc : cells ≤ mc) (hs : slots ≤ ms) (hdg : decode cc pc = .ok (.lreturn, 1)) :
    W p l e R s m args below meth c H locs cells slots (MQ below (QQ vJ post w1 G A) args s mc ms A) (F0 m pc ls [.long v]) :=
  W.widen hc hs (W.lret hx hb hr (fun t ht hW => ⟨⟨v, u, rfl, hp, by rw [ht]; exact hw.1, hw.2.1⟩, hw.2.2.F ht⟩) hw.2.2.2.2 hdg hlk)
theorem r_vret {post : Unit → S → Prop} {w1 : S → va_W} (u : S) (hx : p.tables.exec = Jvm.exec) (hb : c.code = cc) (hr : meth.sig.returnType = none) (hlk : meth.locks = false) (hw : WW G A s (w1 u) H locs) (hp : post () u) (hc : cells ≤ mc) (hs : slots ≤ ms) (hdg : decode cc pc = .ok (.return_, 1)) :
    W p l e R s m args below meth c H locs cells slots (MQ below (QQ vV post w1 G A) args s mc ms A) (F0 m pc ls []) :=
  W.widen hc hs (W.vret hx hb hr (fun t ht hW => ⟨⟨(), u, rfl, hp, by rw [ht]; exact hw.1, hw.2.1⟩, hw.2.2.F ht⟩) hw.2.2.2.2 hdg hlk)
theorem r_aret {post : Nat → S → Prop} {w1 : S → va_W} {v : Nat} {ty : FieldType} (u : S) (hx : p.tables.exec = Jvm.exec) (hb : c.code = cc) (hr : meth.sig.returnType = some (.array ty)) (hlk : meth.locks = false) (hw : WW G A s (w1 u) H locs) (hp : post v u) (hc : cells ≤ mc) (hs : slots ≤ ms) (hdg : decode cc pc = .ok (.areturn, 1)) :
    W p l e R s m args below meth c H locs cells slots (MQ below (QQ vR post w1 G A) args s mc ms A) (F0 m pc ls [.ref v]) :=
  W.widen hc hs (W.aret hx hb hr (Or.inr ⟨_, rfl⟩) (Or.inr ⟨_, rfl⟩) (fun t ht hW => ⟨⟨v, u, rfl, hp, by rw [ht]; exact hw.1, hw.2.1⟩, hw.2.2.F ht⟩) hw.2.2.2.2 hdg hlk)
end RET
/-- the world behind a call: the callee's cells at their places, new ones behind -/
def upds : va_W → List Nat → va_W → va_W
  | ws, [], [] => ws
  | ws, [], e :: w => ws ++ (e :: w)
  | ws, _ :: _, [] => ws
  | ws, i :: is, e :: w => upds (ws.set i e) is w
theorem upds_get : ∀ (is : List Nat) (ws w : va_W) (k : Nat) (q : Nat × va_E), va_nd is = true → (∀ i ∈ is, i < ws.length) → is.length ≤ w.length → (upds ws is w)[k]? = some q →
    (∃ t : Nat, is[t]? = some k ∧ w[t]? = some q) ∨ (k ∉ is ∧ ws[k]? = some q) ∨ (ws.length ≤ k ∧ w[is.length + (k - ws.length)]? = some q)
  | [], ws, [], k, q, _, _, _, h => Or.inr (Or.inl ⟨List.not_mem_nil, h⟩)
  | [], ws, e :: w, k, q, _, _, _, h => by
    unfold upds at h
    by_cases hk : k < ws.length
    · rw [List.getElem?_append_left hk] at h
      exact Or.inr (Or.inl ⟨List.not_mem_nil, h⟩)
    · rw [List.getElem?_append_right (by omega)] at h
      refine Or.inr (Or.inr ⟨by omega, ?_⟩)
      rw [List.length_nil, Nat.zero_add]
      exact h
  | i :: is, ws, [], k, q, _, _, hl, _ => by simp at hl
  | i :: is, ws, e :: w, k, q, hn, hi, hl, h => by
    unfold upds at h
    simp only [va_nd, Bool.and_eq_true, decide_eq_true_eq] at hn
    have hlen : (ws.set i e).length = ws.length := List.length_set
    rcases upds_get is (ws.set i e) w k q hn.2 (fun j hj => by rw [hlen]; exact hi j (List.mem_cons_of_mem _ hj)) (by simpa using hl) h with ⟨t, h1, h2⟩ | ⟨h1, h2⟩ | ⟨h1, h2⟩
    · exact Or.inl ⟨t + 1, by simpa using h1, by simpa using h2⟩
    · by_cases hk : k = i
      · subst hk
        rw [List.getElem?_set_self (hi k List.mem_cons_self)] at h2
        exact Or.inl ⟨0, rfl, h2⟩
      · rw [List.getElem?_set_ne (Ne.symm hk)] at h2
        exact Or.inr (Or.inl ⟨fun z => by rcases List.mem_cons.mp z with z | z; exact hk z; exact h1 z, h2⟩)
    · rw [hlen] at h1 h2
      refine Or.inr (Or.inr ⟨h1, ?_⟩)
      rw [List.length_cons, show is.length + 1 + (k - ws.length) = (is.length + (k - ws.length)) + 1 by omega]
      exact h2
theorem upds_PD {A0 : Nat → Prop} {D : va_G} {cl : List vw_C} {ws wc w1 : va_W} {H H1 : Heap} (hP : va_P D cl ws H) (hD : va_D A0 ws) (is : List Nat) (hC : is.map (fun i => ws[i]?) = wc.map some) (hn : va_nd is = true)
    (hk : ∀ q : Nat, q < H.size → ¬ va_A wc H.size q → H1[q]? = H[q]?) (hF : ∀ q, va_A wc H.size q → A0 q) (hP1 : va_P D cl w1 H1) (hD1 : va_D (va_A wc H.size) w1) (hle : is.length ≤ w1.length) :
    va_P D cl (upds ws is w1) H1 ∧ va_D A0 (upds ws is w1) := by
  have atC : ∀ (k : Nat) (q : Nat × va_E), wc[k]? = some q → ∃ i, is[k]? = some i ∧ ws[i]? = some q := by
    intro k q hq
    have h1 : (is.map (fun i => ws[i]?))[k]? = some (some q) := by rw [hC, List.getElem?_map, hq]; rfl
    rw [List.getElem?_map] at h1
    cases hi : is[k]? with
    | none => rw [hi] at h1; cases h1
    | some i => rw [hi] at h1; exact ⟨i, rfl, Option.some.inj h1⟩
  have hlt : ∀ i ∈ is, i < ws.length := by
    intro i hi
    obtain ⟨k, hk⟩ := List.getElem?_of_mem hi
    have h1 : (is.map (fun i => ws[i]?))[k]? = some (ws[i]?) := by rw [List.getElem?_map, hk]; rfl
    rw [hC, List.getElem?_map] at h1
    cases hw : wc[k]? with
    | none => rw [hw] at h1; cases h1
    | some z => rw [hw] at h1; exact (List.getElem?_eq_some_iff.mp (Option.some.inj h1).symm).1
  have apart : ∀ (k : Nat) (q : Nat × va_E), k ∉ is → ws[k]? = some q → q.1 < H.size ∧ ¬ va_A wc H.size q.1 := by
    intro k q hk hq
    have hl := (hP k q hq).lt
    refine ⟨hl, fun h => ?_⟩
    rcases h with ⟨k2, e, h⟩ | h
    · obtain ⟨j, h3, h4⟩ := atC k2 (q.1, e) h
      have hij := hD.1 k j q (q.1, e) hq h4 rfl
      subst hij
      exact hk (List.mem_of_getElem? h3)
    · omega
  have key := fun k q => upds_get is ws w1 k q hn hlt hle
  refine ⟨fun k q hq => ?_, fun i j x y hi hj hxy => ?_, fun k q hq => ?_⟩
  · rcases key k q hq with ⟨t, -, h2⟩ | ⟨h1, h2⟩ | ⟨-, h2⟩
    · exact hP1 _ q h2
    · obtain ⟨g1, g2⟩ := apart k q h1 h2
      exact (hP k q h2).kept (hk q.1 g1 g2)
    · exact hP1 _ q h2
  · rcases key i x hi with ⟨t, a1, a2⟩ | ⟨a1, a2⟩ | ⟨a1, a2⟩ <;> rcases key j y hj with ⟨t', b1, b2⟩ | ⟨b1, b2⟩ | ⟨b1, b2⟩
    · have h := hD1.1 _ _ x y a2 b2 hxy
      subst h
      rw [a1] at b1
      exact Option.some.inj b1
    · exact absurd (by rw [← hxy]; exact hD1.2 _ x a2) (apart j y b1 b2).2
    · have h := hD1.1 _ _ x y a2 b2 hxy
      have := (List.getElem?_eq_some_iff.mp a1).1
      omega
    · exact absurd (by rw [hxy]; exact hD1.2 _ y b2) (apart i x a1 a2).2
    · exact hD.1 i j x y a2 b2 hxy
    · exact absurd (by rw [hxy]; exact hD1.2 _ y b2) (apart i x a1 a2).2
    · have h := hD1.1 _ _ x y a2 b2 hxy
      have := (List.getElem?_eq_some_iff.mp b1).1
      omega
    · exact absurd (by rw [← hxy]; exact hD1.2 _ x a2) (apart j y b1 b2).2
    · have h := hD1.1 _ _ x y a2 b2 hxy
      omega
  · rcases key k q hq with ⟨t, -, h2⟩ | ⟨h1, h2⟩ | ⟨-, h2⟩
    · exact hF _ (hD1.2 _ q h2)
    · exact hD.2 k q h2
    · exact hF _ (hD1.2 _ q h2)
/-- a part of a world, in another order -/
theorem WW.sub {G : GG} {A : Nat → Prop} {s : State} {ws ws' : va_W} {H : Heap} {locs : List Loc} (h : WW G A s ws H locs) (is : List Nat) (hn : va_nd is = true) (hs : is.map (fun i => ws[i]?) = ws'.map some) : WW G A s ws' H locs := by
  refine ⟨?_, h.2.1.sub is hn hs, h.2.2⟩
  intro k q hk
  have h1 : (is.map (fun i => ws[i]?))[k]? = some (some q) := by rw [hs, List.getElem?_map, hk]; rfl
  rw [List.getElem?_map] at h1
  cases hi : is[k]? with
  | none => rw [hi] at h1; cases h1
  | some i => rw [hi] at h1; exact h.1 i q (Option.some.inj h1)
