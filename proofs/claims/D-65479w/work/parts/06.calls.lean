-- own rows, third part: calls
theorem gi_code {y : MethodName} {b : ByteArray} {n : Nat} {r : Option FieldType} (h : Cond.code y b n r ∈ TT) : GoodIn TT (Cond.code y b n r :: TT) := by
  intro w hw
  have h1 : w ∈ TT := by
    rcases List.mem_cons.mp hw with rfl | h2
    · exact h
    · exact h2
  exact ⟨h1, good_of_word (TT_good w h1)⟩
theorem gi_app {ws1 ws2 : List Cond} (h1 : ∀ w ∈ ws1, w ∈ TT) (h2 : GoodIn TT ws2) : GoodIn TT (ws1 ++ ws2) := by
  intro w hw
  rcases List.mem_append.mp hw with h | h
  · exact ⟨h1 w h, good_of_word (TT_good w (h1 w h))⟩
  · exact h2 w h
abbrev CDd (y : MethodName) (n : Nat) : Prop := y.cls ≠ "java/lang/invoke/MethodHandle" ∧ y.cls ≠ "java/lang/invoke/VarHandle" ∧ (parseMethodDescriptor y.desc).map (fun d => d.parameters.length) = some n
def CVf (own C : String) (idx : Nat) (y : MethodName) (b : ByteArray) (nL : Nat) (ret : Option FieldType) (n : Nat) : Prop := GoodIn TT (wsV own idx C y (.code y b nL ret :: TT)) ∧ y.cls = C ∧ CDd y n
theorem CVf.mk {own C : String} {idx : Nat} {y : MethodName} {b : ByteArray} {nL : Nat} {ret : Option FieldType} {n : Nat} (h1 : Cond.methodLink own idx y ∈ TT) (h2 : Cond.instanceMethod y ∈ TT) (h3 : Cond.selects C y y ∈ TT) (h4 : Cond.initialized C ∈ TT) (h5 : Cond.code y b nL ret ∈ TT) (hc : y.cls = C) (hd : CDd y n) : CVf own C idx y b nL ret n := by
  refine ⟨gi_app (fun w hw => ?_) (gi_code h5), hc, hd⟩
  simp only [List.mem_cons, List.not_mem_nil, or_false] at hw
  rcases hw with rfl | rfl | rfl | rfl <;> assumption
def CSf (own : String) (idx : Nat) (y : MethodName) (b : ByteArray) (nL : Nat) (ret : Option FieldType) (n : Nat) : Prop := GoodIn TT (va_wsS own idx y (.code y b nL ret :: TT)) ∧ CDd y n
theorem CSf.mk {own : String} {idx : Nat} {y : MethodName} {b : ByteArray} {nL : Nat} {ret : Option FieldType} {n : Nat} (h1 : Cond.methodLink own idx y ∈ TT) (h2 : Cond.static y ∈ TT) (h4 : Cond.initialized y.cls ∈ TT) (h5 : Cond.code y b nL ret ∈ TT) (hd : CDd y n) : CSf own idx y b nL ret n := by
  refine ⟨gi_app (fun w hw => ?_) (gi_code h5), hd⟩
  simp only [List.mem_cons, List.not_mem_nil, or_false] at hw
  rcases hw with rfl | rfl | rfl <;> assumption
def CIf (own : String) (idx : Nat) (y : MethodName) (b : ByteArray) (nL : Nat) (n : Nat) : Prop := Cond.methodLink own idx y ∈ TT ∧ Cond.instanceMethod y ∈ TT ∧ Cond.initialized y.cls ∈ TT ∧ Cond.code y b nL none ∈ TT ∧ y.name = "<init>" ∧ CDd y n
section CALL
variable {p : Program} {l : Launch} {e : Env} {R : Room} {s : State} {m : MethodId} {args : Array Value} {below : List Frame} {meth : Method} {c : Code} {H : Heap} {locs : List Loc} {cells slots : Nat} {Q : State → Prop} {cc : ByteArray} {pc : Nat} {ls : Array Slot} {rest st0 : List Value} {G : GG} {A : Nat → Prop} {ws wc : va_W} {mc ms : Nat} {T S : Type} {ρ : T → Option Value} {post : T → S → Prop} {w1 : S → va_W} {a0 : Array Value}
theorem xr (hr : va_Run p l e R s m args below meth c H locs cells slots mc ms (F0 m pc ls st0) rest (QQ ρ post w1 G (va_A wc H.size) a0) (va_A wc H.size)) (hA : ∀ q, s.heap.size ≤ q → A q) (hw : WW G A s ws H locs) (is : List Nat) (hC : is.map (fun i => ws[i]?) = wc.map some) (hn : va_nd is = true) (hle : ∀ u, is.length ≤ (w1 u).length)
    (kk : ∀ (r : T) (u : S) (H1 : Heap) (locs1 : List Loc), post r u → WW G A s (upds ws is (w1 u)) H1 locs1 → W p l e R s m args below meth c H1 locs1 (cells + mc) (slots + ms) Q (F0 m (pc + 3) ls ((ρ r).toList ++ rest))) : W p l e R s m args below meth c H locs cells slots Q (F0 m pc ls st0) := by
  intro T0 hT X
  have hF := va_free hw.2.1 hw.2.2 hA is hC
  have hS := hw.2.2
  obtain ⟨v, st₀, t, T', L, h0, X', hL, e1, e2, ⟨⟨r, u, hv, hp, hb⟩, hz, hk⟩, st⟩ := hr T0 hT X
  have hv : v = ρ r := by injection hv
  subst hv
  rw [h0] at hz hk
  obtain ⟨hP1, hD1⟩ := hb
  rw [← e1] at hP1 hz hk
  obtain ⟨q1, q2⟩ := upds_PD hw.1 hw.2.1 is hC hn hk hF hP1 hD1 (hle u)
  obtain ⟨t2, a1, b1⟩ := kk r u T'.heap (locs ++ L) hp ⟨q1, q2, Nat.le_trans hS.1 hz, fun q h1 h2 => by rw [hk q (Nat.lt_of_lt_of_le h1 hS.1) (fun z => h2 (hF q z))]; exact hS.2.1 q h1 h2, fun q hq => by
      rcases List.mem_append.mp hq with h | h
      · exact hS.2.2 q h
      · exact hF _ (hL q h)⟩ T' rfl X'
  exact ⟨t2, st t2 a1, b1⟩
/-- the whole world goes to the callee -/
theorem xr_all (hr : va_Run p l e R s m args below meth c H locs cells slots mc ms (F0 m pc ls st0) rest (QQ ρ post w1 G (va_A ws H.size) a0) (va_A ws H.size)) (hA : ∀ q, s.heap.size ≤ q → A q) (hw : WW G A s ws H locs)
    (kk : ∀ (r : T) (u : S) (H1 : Heap) (locs1 : List Loc), post r u → WW G A s (w1 u) H1 locs1 → W p l e R s m args below meth c H1 locs1 (cells + mc) (slots + ms) Q (F0 m (pc + 3) ls ((ρ r).toList ++ rest))) : W p l e R s m args below meth c H locs cells slots Q (F0 m pc ls st0) := by
  intro T0 hT X
  have hS := hw.2.2
  have hF : ∀ q, va_A ws H.size q → A q := by
    intro q h
    rcases h with ⟨k, e, h⟩ | h
    · exact hw.2.1.2 k (q, e) h
    · exact hA q (Nat.le_trans hS.1 h)
  obtain ⟨v, st₀, t, T', L, h0, X', hL, e1, e2, ⟨⟨r, u, hv, hp, hb⟩, hz, hk⟩, st⟩ := hr T0 hT X
  have hv : v = ρ r := by injection hv
  subst hv
  rw [h0] at hz hk
  obtain ⟨hP1, hD1⟩ := hb
  rw [← e1] at hP1 hz hk
  obtain ⟨t2, a1, b1⟩ := kk r u T'.heap (locs ++ L) hp ⟨hP1, hD1.weaken (fun k q _ h => hF q.1 h), Nat.le_trans hS.1 hz, fun q h1 h2 => by rw [hk q (Nat.lt_of_lt_of_le h1 hS.1) (fun z => h2 (hF q z))]; exact hS.2.1 q h1 h2, fun q hq => by
      rcases List.mem_append.mp hq with h | h
      · exact hS.2.2 q h
      · exact hF _ (hL q h)⟩ T' rfl X'
  exact ⟨t2, st t2 a1, b1⟩
theorem pr_blind {av : List Value} {sz : Nat} {w : va_W} : FrameBlind (va_Pc av (PR G sz w)) := fun a U g mk q => by
  obtain ⟨q0, q1, q2, q3, q4⟩ := q
  exact ⟨q0, q1, q2, q3, KK.call q4⟩
theorem pr_of {w : va_W} (hK : KK G s) (hP : va_P G.1 classes w H) (hD : va_D A w) {U : State} (hU : U.heap = H) (hW : s.WarmedH U.vm) : PR G H.size w U := ⟨by rw [hU], by rw [hU]; exact hP, hD.weaken (fun _ _ _ _ => trivial), KK.warm hW hK⟩
variable {y : MethodName} {b : ByteArray} {nL nL' : Nat} {ret : Option FieldType} {L idx n : Nat} {own C : String} {As : List Value} {a q0 ci N : Nat} {Tf : u_T} {fs : List Value}
theorem runV (hx : p.tables.exec = Jvm.exec) (hb : c.code = cc) (hml : c.maxLocals = nL) (hown : s.vm.findClass own = some m.cls) (hts : ∀ w ∈ TT, w.before args s = true) (hK : KK G s) (k : CVf own C idx y b nL' ret n) (hM : Ctr ρ l y b nL' ret L mc ms G (.ref a :: As) wc post w1) (hP : va_P G.1 classes wc H) (hD : va_D A wc) (he : wc[q0]? = some (a, .inr (ci, fs))) (hc : classes[ci]? = some (C, Tf, N))
    (hn : As.length = n) (hsz : ls.size = nL) (hst : st0 = As.reverse ++ .ref a :: rest) (hcat : (rest.map fun v => v.category).sum ≤ 8) (hR : L + 1 ≤ R.frames ∧ 8 + (nL' + 11) + 64 * L ≤ R.locals) (hf : cells + mc ≤ R.cells ∧ slots + ms ≤ R.slots) (hdg : decode cc pc = .ok (.invokevirtual idx, 3)) :
    va_Run p l e R s m args below meth c H locs cells slots mc ms (F0 m pc ls st0) rest (QQ ρ post w1 G (va_A wc H.size) (Value.ref a :: As).toArray) (va_A wc H.size) :=
  va_runV (nL := nL) ⟨hx, hb, hml, hown, hts⟩ (hM H.size) (cwV n hts k.1 rfl rfl rfl k.2 hR) ⟨pr_blind, va_recv hK.1 hP hc he, fun U hU hW => ⟨rfl, pr_of hK hP hD hU hW⟩⟩ rfl hn hsz hst (lv_room hcat) hdg hf
theorem runS (hx : p.tables.exec = Jvm.exec) (hb : c.code = cc) (hml : c.maxLocals = nL) (hown : s.vm.findClass own = some m.cls) (hts : ∀ w ∈ TT, w.before args s = true) (hK : KK G s) (k : CSf own idx y b nL' ret n) (hM : Ctr ρ l y b nL' ret L mc ms G As wc post w1) (hP : va_P G.1 classes wc H) (hD : va_D A wc)
    (hn : As.length = n) (hsz : ls.size = nL) (hst : st0 = As.reverse ++ rest) (hcat : (rest.map fun v => v.category).sum ≤ 8) (hR : L + 1 ≤ R.frames ∧ 8 + (nL' + 11) + 64 * L ≤ R.locals) (hf : cells + mc ≤ R.cells ∧ slots + ms ≤ R.slots) (hdg : decode cc pc = .ok (.invokestatic idx, 3)) :
    va_Run p l e R s m args below meth c H locs cells slots mc ms (F0 m pc ls st0) rest (QQ ρ post w1 G (va_A wc H.size) As.toArray) (va_A wc H.size) :=
  va_runS (nL := nL) ⟨hx, hb, hml, hown, hts⟩ (hM H.size) (va_cwS n hts k.1 rfl rfl rfl k.2 hR) ⟨pr_blind, fun U hU hW => ⟨rfl, pr_of hK hP hD hU hW⟩⟩ rfl hn hsz hst (lv_room hcat) hdg hf
theorem runI (hx : p.tables.exec = Jvm.exec) (hb : c.code = cc) (hml : c.maxLocals = nL) (hown : s.vm.findClass own = some m.cls) (hts : ∀ w ∈ TT, w.before args s = true) (hK : KK G s) (k : CIf own idx y b nL' n) (hM : Ctr ρ l y b nL' none L mc ms G (.ref a :: As) wc post w1) (hP : va_P G.1 classes wc H) (hD : va_D A wc)
    (hn : As.length = n) (hsz : ls.size = nL) (hst : st0 = As.reverse ++ .ref a :: rest) (hcat : (rest.map fun v => v.category).sum ≤ 8) (hR : L + 1 ≤ R.frames ∧ 8 + (nL' + 11) + 64 * L ≤ R.locals) (hf : cells + mc ≤ R.cells ∧ slots + ms ≤ R.slots) (hdg : decode cc pc = .ok (.invokespecial idx, 3)) :
    va_Run p l e R s m args below meth c H locs cells slots mc ms (F0 m pc ls st0) rest (QQ ρ post w1 G (va_A wc H.size) (Value.ref a :: As).toArray) (va_A wc H.size) :=
  va_runI (nL := nL) ⟨hx, hb, hml, hown, hts⟩ (hM H.size) (cwI n hts (gi_code k.2.2.2.1) rfl rfl rfl (hts _ k.2.2.1) (hts _ k.1) (hts _ k.2.1) k.2.2.2.2.1 k.2.2.2.2.2 hR) ⟨pr_blind, fun U hU hW => ⟨rfl, pr_of hK hP hD hU hW⟩⟩ rfl hn hsz hst (lv_room hcat) hdg hf
/-- Whole's constructor, called by a nest mate -/
theorem runIN (hx : p.tables.exec = Jvm.exec) (hb : c.code = cc) (hml : c.maxLocals = nL) (hown : s.vm.findClass "StateExplore" = some m.cls) (hts : ∀ w ∈ TT, w.before args s = true) (hK : KK G s) (hM : Ctr ρ l y_W_init b_W_init 1 none L mc ms G [.ref a] wc post w1) (hP : va_P G.1 classes wc H) (hD : va_D A wc)
    (hsz : ls.size = nL) (hst : st0 = .ref a :: rest) (hcat : (rest.map fun v => v.category).sum ≤ 8) (hR : L + 1 ≤ R.frames ∧ 8 + (1 + 11) + 64 * L ≤ R.locals) (hf : cells + mc ≤ R.cells ∧ slots + ms ≤ R.slots) (hdg : decode cc pc = .ok (.invokespecial 54, 3)) :
    va_Run p l e R s m args below meth c H locs cells slots mc ms (F0 m pc ls st0) rest (QQ ρ post w1 G (va_A wc H.size) [Value.ref a].toArray) (va_A wc H.size) :=
  va_runIN (nL := nL) (As := []) ⟨hx, hb, hml, hown, hts⟩ (hM H.size) ⟨va_cnB 0 hts (gi_code tm_28) rfl rfl rfl hK.2.2.1 (hts _ tm_2) (by decide +kernel) hR, rfl, hts _ tm_27⟩ ⟨pr_blind, fun U hU hW => ⟨rfl, pr_of hK hP hD hU hW⟩⟩ rfl rfl hsz hst (lv_room hcat) hdg hf
/-- a part of the world for the callee -/
theorem wwc (hw : WW G A s ws H locs) (is : List Nat) (hC : is.map (fun i => ws[i]?) = wc.map some) (hn : va_nd is = true) : va_P G.1 classes wc H ∧ va_D A wc := ⟨(hw.sub is hn hC).1, (hw.sub is hn hC).2.1⟩
end CALL
section CALLS
variable {p : Program} {l : Launch} {e : Env} {R : Room} {s : State} {m : MethodId} {args : Array Value} {below : List Frame} {meth : Method} {c : Code} {H : Heap} {locs : List Loc} {cells slots : Nat} {Q : State → Prop} {cc : ByteArray} {pc : Nat} {ls : Array Slot} {rest st0 : List Value} {G : GG} {A : Nat → Prop} {ws wc : va_W} {mc ms : Nat} {S : Type} {w1 : S → va_W} {y : MethodName} {b : ByteArray} {nL nL' : Nat} {ret : Option FieldType} {L idx n : Nat} {own C : String} {As : List Value} {a ci N : Nat} {Tf : u_T} {fs : List Value}
theorem xV_i {post : Int32 → S → Prop} (hx : p.tables.exec = Jvm.exec) (hb : c.code = cc) (hml : c.maxLocals = nL) (hown : s.vm.findClass own = some m.cls) (hts : ∀ w ∈ TT, w.before args s = true) (hK : KK G s) (hA : ∀ q, s.heap.size ≤ q → A q) (hw : WW G A s ws H locs) (k : CVf own C idx y b nL' ret n) (hM : Ctr vI l y b nL' ret L mc ms G (.ref a :: As) wc post w1) (is : List Nat) (hC : is.map (fun i => ws[i]?) = wc.map some) (hn : va_nd is = true) (hle : ∀ u, is.length ≤ (w1 u).length) (q0 : Nat) (he : wc[q0]? = some (a, .inr (ci, fs))) (hc : classes[ci]? = some (C, Tf, N)) (hln : As.length = n) (hst : st0 = As.reverse ++ .ref a :: rest) (hsz : ls.size = nL) (hcat : (rest.map fun v => v.category).sum ≤ 8) (hR : L + 1 ≤ R.frames ∧ 8 + (nL' + 11) + 64 * L ≤ R.locals) (hf : cells + mc ≤ R.cells ∧ slots + ms ≤ R.slots) (hdg : decode cc pc = .ok (.invokevirtual idx, 3))
    (kk : ∀ (r : Int32) (u : S) (H1 : Heap) (locs1 : List Loc), post r u → WW G A s (upds ws is (w1 u)) H1 locs1 → W p l e R s m args below meth c H1 locs1 (cells + mc) (slots + ms) Q (F0 m (pc + 3) ls (.int r :: rest))) : W p l e R s m args below meth c H locs cells slots Q (F0 m pc ls st0) := by
  have h := wwc hw is hC hn
  exact xr (runV hx hb hml hown hts hK k hM h.1 h.2 he hc hln hsz hst hcat hR hf hdg) hA hw is hC hn hle kk
theorem xVA_i {post : Int32 → S → Prop} (hx : p.tables.exec = Jvm.exec) (hb : c.code = cc) (hml : c.maxLocals = nL) (hown : s.vm.findClass own = some m.cls) (hts : ∀ w ∈ TT, w.before args s = true) (hK : KK G s) (hA : ∀ q, s.heap.size ≤ q → A q) (hw : WW G A s ws H locs) (k : CVf own C idx y b nL' ret n) (hM : Ctr vI l y b nL' ret L mc ms G (.ref a :: As) ws post w1) (q0 : Nat) (he : ws[q0]? = some (a, .inr (ci, fs))) (hc : classes[ci]? = some (C, Tf, N)) (hln : As.length = n) (hst : st0 = As.reverse ++ .ref a :: rest) (hsz : ls.size = nL) (hcat : (rest.map fun v => v.category).sum ≤ 8) (hR : L + 1 ≤ R.frames ∧ 8 + (nL' + 11) + 64 * L ≤ R.locals) (hf : cells + mc ≤ R.cells ∧ slots + ms ≤ R.slots) (hdg : decode cc pc = .ok (.invokevirtual idx, 3))
    (kk : ∀ (r : Int32) (u : S) (H1 : Heap) (locs1 : List Loc), post r u → WW G A s (w1 u) H1 locs1 → W p l e R s m args below meth c H1 locs1 (cells + mc) (slots + ms) Q (F0 m (pc + 3) ls (.int r :: rest))) : W p l e R s m args below meth c H locs cells slots Q (F0 m pc ls st0) := by
  exact xr_all (runV hx hb hml hown hts hK k hM hw.1 hw.2.1 he hc hln hsz hst hcat hR hf hdg) hA hw kk
theorem xS_i {post : Int32 → S → Prop} (hx : p.tables.exec = Jvm.exec) (hb : c.code = cc) (hml : c.maxLocals = nL) (hown : s.vm.findClass own = some m.cls) (hts : ∀ w ∈ TT, w.before args s = true) (hK : KK G s) (hA : ∀ q, s.heap.size ≤ q → A q) (hw : WW G A s ws H locs) (k : CSf own idx y b nL' ret n) (hM : Ctr vI l y b nL' ret L mc ms G As wc post w1) (is : List Nat) (hC : is.map (fun i => ws[i]?) = wc.map some) (hn : va_nd is = true) (hle : ∀ u, is.length ≤ (w1 u).length) (hln : As.length = n) (hst : st0 = As.reverse ++ rest) (hsz : ls.size = nL) (hcat : (rest.map fun v => v.category).sum ≤ 8) (hR : L + 1 ≤ R.frames ∧ 8 + (nL' + 11) + 64 * L ≤ R.locals) (hf : cells + mc ≤ R.cells ∧ slots + ms ≤ R.slots) (hdg : decode cc pc = .ok (.invokestatic idx, 3))
    (kk : ∀ (r : Int32) (u : S) (H1 : Heap) (locs1 : List Loc), post r u → WW G A s (upds ws is (w1 u)) H1 locs1 → W p l e R s m args below meth c H1 locs1 (cells + mc) (slots + ms) Q (F0 m (pc + 3) ls (.int r :: rest))) : W p l e R s m args below meth c H locs cells slots Q (F0 m pc ls st0) := by
  have h := wwc hw is hC hn
  exact xr (runS hx hb hml hown hts hK k hM h.1 h.2 hln hsz hst hcat hR hf hdg) hA hw is hC hn hle kk
theorem xV_j {post : Int64 → S → Prop} (hx : p.tables.exec = Jvm.exec) (hb : c.code = cc) (hml : c.maxLocals = nL) (hown : s.vm.findClass own = some m.cls) (hts : ∀ w ∈ TT, w.before args s = true) (hK : KK G s) (hA : ∀ q, s.heap.size ≤ q → A q) (hw : WW G A s ws H locs) (k : CVf own C idx y b nL' ret n) (hM : Ctr vJ l y b nL' ret L mc ms G (.ref a :: As) wc post w1) (is : List Nat) (hC : is.map (fun i => ws[i]?) = wc.map some) (hn : va_nd is = true) (hle : ∀ u, is.length ≤ (w1 u).length) (q0 : Nat) (he : wc[q0]? = some (a, .inr (ci, fs))) (hc : classes[ci]? = some (C, Tf, N)) (hln : As.length = n) (hst : st0 = As.reverse ++ .ref a :: rest) (hsz : ls.size = nL) (hcat : (rest.map fun v => v.category).sum ≤ 8) (hR : L + 1 ≤ R.frames ∧ 8 + (nL' + 11) + 64 * L ≤ R.locals) (hf : cells + mc ≤ R.cells ∧ slots + ms ≤ R.slots) (hdg : decode cc pc = .ok (.invokevirtual idx, 3))
    (kk : ∀ (r : Int64) (u : S) (H1 : Heap) (locs1 : List Loc), post r u → WW G A s (upds ws is (w1 u)) H1 locs1 → W p l e R s m args below meth c H1 locs1 (cells + mc) (slots + ms) Q (F0 m (pc + 3) ls (.long r :: rest))) : W p l e R s m args below meth c H locs cells slots Q (F0 m pc ls st0) := by
  have h := wwc hw is hC hn
  exact xr (runV hx hb hml hown hts hK k hM h.1 h.2 he hc hln hsz hst hcat hR hf hdg) hA hw is hC hn hle kk
theorem xVA_j {post : Int64 → S → Prop} (hx : p.tables.exec = Jvm.exec) (hb : c.code = cc) (hml : c.maxLocals = nL) (hown : s.vm.findClass own = some m.cls) (hts : ∀ w ∈ TT, w.before args s = true) (hK : KK G s) (hA : ∀ q, s.heap.size ≤ q → A q) (hw : WW G A s ws H locs) (k : CVf own C idx y b nL' ret n) (hM : Ctr vJ l y b nL' ret L mc ms G (.ref a :: As) ws post w1) (q0 : Nat) (he : ws[q0]? = some (a, .inr (ci, fs))) (hc : classes[ci]? = some (C, Tf, N)) (hln : As.length = n) (hst : st0 = As.reverse ++ .ref a :: rest) (hsz : ls.size = nL) (hcat : (rest.map fun v => v.category).sum ≤ 8) (hR : L + 1 ≤ R.frames ∧ 8 + (nL' + 11) + 64 * L ≤ R.locals) (hf : cells + mc ≤ R.cells ∧ slots + ms ≤ R.slots) (hdg : decode cc pc = .ok (.invokevirtual idx, 3))
    (kk : ∀ (r : Int64) (u : S) (H1 : Heap) (locs1 : List Loc), post r u → WW G A s (w1 u) H1 locs1 → W p l e R s m args below meth c H1 locs1 (cells + mc) (slots + ms) Q (F0 m (pc + 3) ls (.long r :: rest))) : W p l e R s m args below meth c H locs cells slots Q (F0 m pc ls st0) := by
  exact xr_all (runV hx hb hml hown hts hK k hM hw.1 hw.2.1 he hc hln hsz hst hcat hR hf hdg) hA hw kk
theorem xS_j {post : Int64 → S → Prop} (hx : p.tables.exec = Jvm.exec) (hb : c.code = cc) (hml : c.maxLocals = nL) (hown : s.vm.findClass own = some m.cls) (hts : ∀ w ∈ TT, w.before args s = true) (hK : KK G s) (hA : ∀ q, s.heap.size ≤ q → A q) (hw : WW G A s ws H locs) (k : CSf own idx y b nL' ret n) (hM : Ctr vJ l y b nL' ret L mc ms G As wc post w1) (is : List Nat) (hC : is.map (fun i => ws[i]?) = wc.map some) (hn : va_nd is = true) (hle : ∀ u, is.length ≤ (w1 u).length) (hln : As.length = n) (hst : st0 = As.reverse ++ rest) (hsz : ls.size = nL) (hcat : (rest.map fun v => v.category).sum ≤ 8) (hR : L + 1 ≤ R.frames ∧ 8 + (nL' + 11) + 64 * L ≤ R.locals) (hf : cells + mc ≤ R.cells ∧ slots + ms ≤ R.slots) (hdg : decode cc pc = .ok (.invokestatic idx, 3))
    (kk : ∀ (r : Int64) (u : S) (H1 : Heap) (locs1 : List Loc), post r u → WW G A s (upds ws is (w1 u)) H1 locs1 → W p l e R s m args below meth c H1 locs1 (cells + mc) (slots + ms) Q (F0 m (pc + 3) ls (.long r :: rest))) : W p l e R s m args below meth c H locs cells slots Q (F0 m pc ls st0) := by
  have h := wwc hw is hC hn
  exact xr (runS hx hb hml hown hts hK k hM h.1 h.2 hln hsz hst hcat hR hf hdg) hA hw is hC hn hle kk
theorem xV_v {post : Unit → S → Prop} (hx : p.tables.exec = Jvm.exec) (hb : c.code = cc) (hml : c.maxLocals = nL) (hown : s.vm.findClass own = some m.cls) (hts : ∀ w ∈ TT, w.before args s = true) (hK : KK G s) (hA : ∀ q, s.heap.size ≤ q → A q) (hw : WW G A s ws H locs) (k : CVf own C idx y b nL' ret n) (hM : Ctr vV l y b nL' ret L mc ms G (.ref a :: As) wc post w1) (is : List Nat) (hC : is.map (fun i => ws[i]?) = wc.map some) (hn : va_nd is = true) (hle : ∀ u, is.length ≤ (w1 u).length) (q0 : Nat) (he : wc[q0]? = some (a, .inr (ci, fs))) (hc : classes[ci]? = some (C, Tf, N)) (hln : As.length = n) (hst : st0 = As.reverse ++ .ref a :: rest) (hsz : ls.size = nL) (hcat : (rest.map fun v => v.category).sum ≤ 8) (hR : L + 1 ≤ R.frames ∧ 8 + (nL' + 11) + 64 * L ≤ R.locals) (hf : cells + mc ≤ R.cells ∧ slots + ms ≤ R.slots) (hdg : decode cc pc = .ok (.invokevirtual idx, 3))
    (kk : ∀ (r : Unit) (u : S) (H1 : Heap) (locs1 : List Loc), post r u → WW G A s (upds ws is (w1 u)) H1 locs1 → W p l e R s m args below meth c H1 locs1 (cells + mc) (slots + ms) Q (F0 m (pc + 3) ls (rest))) : W p l e R s m args below meth c H locs cells slots Q (F0 m pc ls st0) := by
  have h := wwc hw is hC hn
  exact xr (runV hx hb hml hown hts hK k hM h.1 h.2 he hc hln hsz hst hcat hR hf hdg) hA hw is hC hn hle kk
theorem xVA_v {post : Unit → S → Prop} (hx : p.tables.exec = Jvm.exec) (hb : c.code = cc) (hml : c.maxLocals = nL) (hown : s.vm.findClass own = some m.cls) (hts : ∀ w ∈ TT, w.before args s = true) (hK : KK G s) (hA : ∀ q, s.heap.size ≤ q → A q) (hw : WW G A s ws H locs) (k : CVf own C idx y b nL' ret n) (hM : Ctr vV l y b nL' ret L mc ms G (.ref a :: As) ws post w1) (q0 : Nat) (he : ws[q0]? = some (a, .inr (ci, fs))) (hc : classes[ci]? = some (C, Tf, N)) (hln : As.length = n) (hst : st0 = As.reverse ++ .ref a :: rest) (hsz : ls.size = nL) (hcat : (rest.map fun v => v.category).sum ≤ 8) (hR : L + 1 ≤ R.frames ∧ 8 + (nL' + 11) + 64 * L ≤ R.locals) (hf : cells + mc ≤ R.cells ∧ slots + ms ≤ R.slots) (hdg : decode cc pc = .ok (.invokevirtual idx, 3))
    (kk : ∀ (r : Unit) (u : S) (H1 : Heap) (locs1 : List Loc), post r u → WW G A s (w1 u) H1 locs1 → W p l e R s m args below meth c H1 locs1 (cells + mc) (slots + ms) Q (F0 m (pc + 3) ls (rest))) : W p l e R s m args below meth c H locs cells slots Q (F0 m pc ls st0) := by
  exact xr_all (runV hx hb hml hown hts hK k hM hw.1 hw.2.1 he hc hln hsz hst hcat hR hf hdg) hA hw kk
theorem xS_v {post : Unit → S → Prop} (hx : p.tables.exec = Jvm.exec) (hb : c.code = cc) (hml : c.maxLocals = nL) (hown : s.vm.findClass own = some m.cls) (hts : ∀ w ∈ TT, w.before args s = true) (hK : KK G s) (hA : ∀ q, s.heap.size ≤ q → A q) (hw : WW G A s ws H locs) (k : CSf own idx y b nL' ret n) (hM : Ctr vV l y b nL' ret L mc ms G As wc post w1) (is : List Nat) (hC : is.map (fun i => ws[i]?) = wc.map some) (hn : va_nd is = true) (hle : ∀ u, is.length ≤ (w1 u).length) (hln : As.length = n) (hst : st0 = As.reverse ++ rest) (hsz : ls.size = nL) (hcat : (rest.map fun v => v.category).sum ≤ 8) (hR : L + 1 ≤ R.frames ∧ 8 + (nL' + 11) + 64 * L ≤ R.locals) (hf : cells + mc ≤ R.cells ∧ slots + ms ≤ R.slots) (hdg : decode cc pc = .ok (.invokestatic idx, 3))
    (kk : ∀ (r : Unit) (u : S) (H1 : Heap) (locs1 : List Loc), post r u → WW G A s (upds ws is (w1 u)) H1 locs1 → W p l e R s m args below meth c H1 locs1 (cells + mc) (slots + ms) Q (F0 m (pc + 3) ls (rest))) : W p l e R s m args below meth c H locs cells slots Q (F0 m pc ls st0) := by
  have h := wwc hw is hC hn
  exact xr (runS hx hb hml hown hts hK k hM h.1 h.2 hln hsz hst hcat hR hf hdg) hA hw is hC hn hle kk
theorem xI_v {post : Unit → S → Prop} (hx : p.tables.exec = Jvm.exec) (hb : c.code = cc) (hml : c.maxLocals = nL) (hown : s.vm.findClass own = some m.cls) (hts : ∀ w ∈ TT, w.before args s = true) (hK : KK G s) (hA : ∀ q, s.heap.size ≤ q → A q) (hw : WW G A s ws H locs) (k : CIf own idx y b nL' n) (hM : Ctr vV l y b nL' none L mc ms G (.ref a :: As) wc post w1) (is : List Nat) (hC : is.map (fun i => ws[i]?) = wc.map some) (hn : va_nd is = true) (hle : ∀ u, is.length ≤ (w1 u).length) (hln : As.length = n) (hst : st0 = As.reverse ++ .ref a :: rest) (hsz : ls.size = nL) (hcat : (rest.map fun v => v.category).sum ≤ 8) (hR : L + 1 ≤ R.frames ∧ 8 + (nL' + 11) + 64 * L ≤ R.locals) (hf : cells + mc ≤ R.cells ∧ slots + ms ≤ R.slots) (hdg : decode cc pc = .ok (.invokespecial idx, 3))
    (kk : ∀ (r : Unit) (u : S) (H1 : Heap) (locs1 : List Loc), post r u → WW G A s (upds ws is (w1 u)) H1 locs1 → W p l e R s m args below meth c H1 locs1 (cells + mc) (slots + ms) Q (F0 m (pc + 3) ls (rest))) : W p l e R s m args below meth c H locs cells slots Q (F0 m pc ls st0) := by
  have h := wwc hw is hC hn
  exact xr (runI hx hb hml hown hts hK k hM h.1 h.2 hln hsz hst hcat hR hf hdg) hA hw is hC hn hle kk
theorem xIN_v {post : Unit → S → Prop} (hx : p.tables.exec = Jvm.exec) (hb : c.code = cc) (hml : c.maxLocals = nL) (hown : s.vm.findClass "StateExplore" = some m.cls) (hts : ∀ w ∈ TT, w.before args s = true) (hK : KK G s) (hA : ∀ q, s.heap.size ≤ q → A q) (hw : WW G A s ws H locs) (hM : Ctr vV l y_W_init b_W_init 1 none L mc ms G [.ref a] wc post w1) (is : List Nat) (hC : is.map (fun i => ws[i]?) = wc.map some) (hn : va_nd is = true) (hle : ∀ u, is.length ≤ (w1 u).length) (hst : st0 = .ref a :: rest) (hsz : ls.size = nL) (hcat : (rest.map fun v => v.category).sum ≤ 8) (hR : L + 1 ≤ R.frames ∧ 8 + (1 + 11) + 64 * L ≤ R.locals) (hf : cells + mc ≤ R.cells ∧ slots + ms ≤ R.slots) (hdg : decode cc pc = .ok (.invokespecial 54, 3))
    (kk : ∀ (r : Unit) (u : S) (H1 : Heap) (locs1 : List Loc), post r u → WW G A s (upds ws is (w1 u)) H1 locs1 → W p l e R s m args below meth c H1 locs1 (cells + mc) (slots + ms) Q (F0 m (pc + 3) ls (rest))) : W p l e R s m args below meth c H locs cells slots Q (F0 m pc ls st0) := by
  have h := wwc hw is hC hn
  exact xr (runIN hx hb hml hown hts hK hM h.1 h.2 hsz hst hcat hR hf hdg) hA hw is hC hn hle kk
theorem xV_r {post : Nat → S → Prop} (hx : p.tables.exec = Jvm.exec) (hb : c.code = cc) (hml : c.maxLocals = nL) (hown : s.vm.findClass own = some m.cls) (hts : ∀ w ∈ TT, w.before args s = true) (hK : KK G s) (hA : ∀ q, s.heap.size ≤ q → A q) (hw : WW G A s ws H locs) (k : CVf own C idx y b nL' ret n) (hM : Ctr vR l y b nL' ret L mc ms G (.ref a :: As) wc post w1) (is : List Nat) (hC : is.map (fun i => ws[i]?) = wc.map some) (hn : va_nd is = true) (hle : ∀ u, is.length ≤ (w1 u).length) (q0 : Nat) (he : wc[q0]? = some (a, .inr (ci, fs))) (hc : classes[ci]? = some (C, Tf, N)) (hln : As.length = n) (hst : st0 = As.reverse ++ .ref a :: rest) (hsz : ls.size = nL) (hcat : (rest.map fun v => v.category).sum ≤ 8) (hR : L + 1 ≤ R.frames ∧ 8 + (nL' + 11) + 64 * L ≤ R.locals) (hf : cells + mc ≤ R.cells ∧ slots + ms ≤ R.slots) (hdg : decode cc pc = .ok (.invokevirtual idx, 3))
    (kk : ∀ (r : Nat) (u : S) (H1 : Heap) (locs1 : List Loc), post r u → WW G A s (upds ws is (w1 u)) H1 locs1 → W p l e R s m args below meth c H1 locs1 (cells + mc) (slots + ms) Q (F0 m (pc + 3) ls (.ref r :: rest))) : W p l e R s m args below meth c H locs cells slots Q (F0 m pc ls st0) := by
  have h := wwc hw is hC hn
  exact xr (runV hx hb hml hown hts hK k hM h.1 h.2 he hc hln hsz hst hcat hR hf hdg) hA hw is hC hn hle kk
theorem xVA_r {post : Nat → S → Prop} (hx : p.tables.exec = Jvm.exec) (hb : c.code = cc) (hml : c.maxLocals = nL) (hown : s.vm.findClass own = some m.cls) (hts : ∀ w ∈ TT, w.before args s = true) (hK : KK G s) (hA : ∀ q, s.heap.size ≤ q → A q) (hw : WW G A s ws H locs) (k : CVf own C idx y b nL' ret n) (hM : Ctr vR l y b nL' ret L mc ms G (.ref a :: As) ws post w1) (q0 : Nat) (he : ws[q0]? = some (a, .inr (ci, fs))) (hc : classes[ci]? = some (C, Tf, N)) (hln : As.length = n) (hst : st0 = As.reverse ++ .ref a :: rest) (hsz : ls.size = nL) (hcat : (rest.map fun v => v.category).sum ≤ 8) (hR : L + 1 ≤ R.frames ∧ 8 + (nL' + 11) + 64 * L ≤ R.locals) (hf : cells + mc ≤ R.cells ∧ slots + ms ≤ R.slots) (hdg : decode cc pc = .ok (.invokevirtual idx, 3))
    (kk : ∀ (r : Nat) (u : S) (H1 : Heap) (locs1 : List Loc), post r u → WW G A s (w1 u) H1 locs1 → W p l e R s m args below meth c H1 locs1 (cells + mc) (slots + ms) Q (F0 m (pc + 3) ls (.ref r :: rest))) : W p l e R s m args below meth c H locs cells slots Q (F0 m pc ls st0) := by
  exact xr_all (runV hx hb hml hown hts hK k hM hw.1 hw.2.1 he hc hln hsz hst hcat hR hf hdg) hA hw kk
theorem xS_r {post : Nat → S → Prop} (hx : p.tables.exec = Jvm.exec) (hb : c.code = cc) (hml : c.maxLocals = nL) (hown : s.vm.findClass own = some m.cls) (hts : ∀ w ∈ TT, w.before args s = true) (hK : KK G s) (hA : ∀ q, s.heap.size ≤ q → A q) (hw : WW G A s ws H locs) (k : CSf own idx y b nL' ret n) (hM : Ctr vR l y b nL' ret L mc ms G As wc post w1) (is : List Nat) (hC : is.map (fun i => ws[i]?) = wc.map some) (hn : va_nd is = true) (hle : ∀ u, is.length ≤ (w1 u).length) (hln : As.length = n) (hst : st0 = As.reverse ++ rest) (hsz : ls.size = nL) (hcat : (rest.map fun v => v.category).sum ≤ 8) (hR : L + 1 ≤ R.frames ∧ 8 + (nL' + 11) + 64 * L ≤ R.locals) (hf : cells + mc ≤ R.cells ∧ slots + ms ≤ R.slots) (hdg : decode cc pc = .ok (.invokestatic idx, 3))
    (kk : ∀ (r : Nat) (u : S) (H1 : Heap) (locs1 : List Loc), post r u → WW G A s (upds ws is (w1 u)) H1 locs1 → W p l e R s m args below meth c H1 locs1 (cells + mc) (slots + ms) Q (F0 m (pc + 3) ls (.ref r :: rest))) : W p l e R s m args below meth c H locs cells slots Q (F0 m pc ls st0) := by
  have h := wwc hw is hC hn
  exact xr (runS hx hb hml hown hts hK k hM h.1 h.2 hln hsz hst hcat hR hf hdg) hA hw is hC hn hle kk
end CALLS
