-- own rows: a call with a stretch of the world
theorem app3 {a b c : va_W} {k : Nat} {q : Nat × va_E} (h : (a ++ b ++ c)[k]? = some q) : (k < a.length ∧ a[k]? = some q) ∨ (∃ t, k = a.length + t ∧ b[t]? = some q) ∨ (∃ t, k = a.length + b.length + t ∧ c[t]? = some q) := by
  by_cases h1 : k < a.length + b.length
  · rw [List.getElem?_append_left (by rw [List.length_append]; exact h1)] at h
    by_cases h2 : k < a.length
    · rw [List.getElem?_append_left h2] at h
      exact Or.inl ⟨h2, h⟩
    · rw [List.getElem?_append_right (by omega)] at h
      exact Or.inr (Or.inl ⟨k - a.length, by omega, h⟩)
  · rw [List.getElem?_append_right (by rw [List.length_append]; omega), List.length_append] at h
    exact Or.inr (Or.inr ⟨k - (a.length + b.length), by omega, h⟩)
theorem app3_a {a b c : va_W} {k : Nat} (h : k < a.length) : (a ++ b ++ c)[k]? = a[k]? := by
  rw [List.append_assoc, List.getElem?_append_left h]
theorem app3_b {a b c : va_W} {t : Nat} {q : Nat × va_E} (h : b[t]? = some q) : (a ++ b ++ c)[a.length + t]? = some q := by
  have hl := (List.getElem?_eq_some_iff.mp h).1
  rw [List.getElem?_append_left (by rw [List.length_append]; omega), List.getElem?_append_right (by omega), ← h]
  congr 1; omega
theorem app3_c {a b c : va_W} {t : Nat} {q : Nat × va_E} (h : c[t]? = some q) : (a ++ b ++ c)[a.length + b.length + t]? = some q := by
  rw [List.getElem?_append_right (by rw [List.length_append]; omega), List.length_append, ← h]
  congr 1; omega
theorem mid_PD {A0 : Nat → Prop} {D : va_G} {cl : List vw_C} {wa wb wc w1 : va_W} {H H1 : Heap} (hP : va_P D cl (wa ++ wc ++ wb) H) (hD : va_D A0 (wa ++ wc ++ wb))
    (hk : ∀ q : Nat, q < H.size → ¬ va_A wc H.size q → H1[q]? = H[q]?) (hF : ∀ q, va_A wc H.size q → A0 q) (hP1 : va_P D cl w1 H1) (hD1 : va_D (va_A wc H.size) w1) :
    va_P D cl (wa ++ w1 ++ wb) H1 ∧ va_D A0 (wa ++ w1 ++ wb) := by
  have apart : ∀ (k : Nat) (q : Nat × va_E), (wa ++ wc ++ wb)[k]? = some q → (k < wa.length ∨ wa.length + wc.length ≤ k) → q.1 < H.size ∧ ¬ va_A wc H.size q.1 := by
    intro k q hq hr
    have hl := (hP k q hq).lt
    refine ⟨hl, fun h => ?_⟩
    rcases h with ⟨t, e, h⟩ | h
    · have h2 := hD.1 k (wa.length + t) q (q.1, e) hq (app3_b h) rfl
      have h3 := (List.getElem?_eq_some_iff.mp h).1
      omega
    · omega
  have old : ∀ (k : Nat) (q : Nat × va_E), (wa ++ w1 ++ wb)[k]? = some q → (∃ t, k = wa.length + t ∧ w1[t]? = some q) ∨ ∃ k', (wa ++ wc ++ wb)[k']? = some q ∧ ((k = k' ∧ k < wa.length) ∨ ∃ t, k = wa.length + w1.length + t ∧ k' = wa.length + wc.length + t) := by
    intro k q hq
    rcases app3 hq with ⟨h1, h2⟩ | h | ⟨t, h1, h2⟩
    · exact Or.inr ⟨k, by rw [app3_a h1]; exact h2, Or.inl ⟨rfl, h1⟩⟩
    · exact Or.inl h
    · exact Or.inr ⟨_, app3_c h2, Or.inr ⟨t, h1, rfl⟩⟩
  refine ⟨fun k q hq => ?_, fun i j x y hi hj hxy => ?_, fun k q hq => ?_⟩
  · rcases old k q hq with ⟨t, -, h⟩ | ⟨k', h, hc⟩
    · exact hP1 t q h
    · obtain ⟨g1, g2⟩ := apart k' q h (by rcases hc with ⟨a, b⟩ | ⟨t, a, b⟩ <;> omega)
      exact (hP k' q h).kept (hk q.1 g1 g2)
  · rcases old i x hi with ⟨t, a1, a2⟩ | ⟨i', a1, a2⟩ <;> rcases old j y hj with ⟨t', b1, b2⟩ | ⟨j', b1, b2⟩
    · have := hD1.1 t t' x y a2 b2 hxy
      omega
    · exact absurd (by rw [← hxy]; exact hD1.2 t x a2) (apart j' y b1 (by rcases b2 with ⟨a, b⟩ | ⟨t, a, b⟩ <;> omega)).2
    · exact absurd (by rw [hxy]; exact hD1.2 t' y b2) (apart i' x a1 (by rcases a2 with ⟨a, b⟩ | ⟨t, a, b⟩ <;> omega)).2
    · have := hD.1 i' j' x y a1 b1 hxy
      have hi2 := (List.getElem?_eq_some_iff.mp a1).1
      rcases a2 with ⟨a, b⟩ | ⟨t, a, b⟩ <;> rcases b2 with ⟨c, d⟩ | ⟨t', c, d⟩ <;> omega
  · rcases old k q hq with ⟨t, -, h⟩ | ⟨k', h, -⟩
    · exact hF _ (hD1.2 t q h)
    · exact hD.2 k' q h
section CALM
variable {p : Program} {l : Launch} {e : Env} {R : Room} {s : State} {m : MethodId} {args : Array Value} {below : List Frame} {meth : Method} {c : Code} {H : Heap} {locs : List Loc} {cells slots : Nat} {Q : State → Prop} {cc : ByteArray} {pc : Nat} {ls : Array Slot} {rest st0 : List Value} {G : GG} {A : Nat → Prop} {wa wb wc : va_W} {mc ms : Nat} {T S : Type} {ρ : T → Option Value} {post : T → S → Prop} {w1 : S → va_W} {a0 : Array Value}
theorem mid_sub (hw : WW G A s (wa ++ wc ++ wb) H locs) : va_P G.1 classes wc H ∧ va_D A wc := by
  refine ⟨fun k q hq => hw.1 _ q (app3_b hq), fun i j x y hi hj hxy => ?_, fun k q hq => hw.2.1.2 _ q (app3_b hq)⟩
  have := hw.2.1.1 _ _ x y (app3_b hi) (app3_b hj) hxy
  omega
theorem xr_mid (hr : va_Run p l e R s m args below meth c H locs cells slots mc ms (F0 m pc ls st0) rest (QQ ρ post w1 G (va_A wc H.size) a0) (va_A wc H.size)) (hA : ∀ q, s.heap.size ≤ q → A q) (hw : WW G A s (wa ++ wc ++ wb) H locs)
    (kk : ∀ (r : T) (u : S) (H1 : Heap) (locs1 : List Loc), post r u → WW G A s (wa ++ w1 u ++ wb) H1 locs1 → W p l e R s m args below meth c H1 locs1 (cells + mc) (slots + ms) Q (F0 m (pc + 3) ls ((ρ r).toList ++ rest))) : W p l e R s m args below meth c H locs cells slots Q (F0 m pc ls st0) := by
  intro T0 hT X
  have hS := hw.2.2
  have hF : ∀ q, va_A wc H.size q → A q := by
    intro q h
    rcases h with ⟨k, e, h⟩ | h
    · exact hw.2.1.2 _ (q, e) (app3_b h)
    · exact hA q (Nat.le_trans hS.1 h)
  obtain ⟨v, st₀, t, T', L, h0, X', hL, e1, e2, ⟨⟨r, u, hv, hp, hb⟩, hz, hk⟩, st⟩ := hr T0 hT X
  have hv : v = ρ r := by injection hv
  subst hv
  rw [h0] at hz hk
  obtain ⟨hP1, hD1⟩ := hb
  rw [← e1] at hP1 hz hk
  obtain ⟨q1, q2⟩ := mid_PD hw.1 hw.2.1 hk hF hP1 hD1
  obtain ⟨t2, a1, b1⟩ := kk r u T'.heap (locs ++ L) hp ⟨q1, q2, Nat.le_trans hS.1 hz, fun q h1 h2 => by rw [hk q (Nat.lt_of_lt_of_le h1 hS.1) (fun z => h2 (hF q z))]; exact hS.2.1 q h1 h2, fun q hq => by
      rcases List.mem_append.mp hq with h | h
      · exact hS.2.2 q h
      · exact hF _ (hL q h)⟩ T' rfl X'
  exact ⟨t2, st t2 a1, b1⟩
end CALM
section CALMS
variable {p : Program} {l : Launch} {e : Env} {R : Room} {s : State} {m : MethodId} {args : Array Value} {below : List Frame} {meth : Method} {c : Code} {H : Heap} {locs : List Loc} {cells slots : Nat} {Q : State → Prop} {cc : ByteArray} {pc : Nat} {ls : Array Slot} {rest st0 : List Value} {G : GG} {A : Nat → Prop} {wc : va_W} {mc ms : Nat} {S : Type} {w1 : S → va_W} {y : MethodName} {b : ByteArray} {nL nL' : Nat} {ret : Option FieldType} {L idx n : Nat} {own C : String} {As : List Value} {a ci N : Nat} {Tf : u_T} {fs : List Value}
theorem xVM_i {post : Int32 → S → Prop} (wa wb : va_W) (hx : p.tables.exec = Jvm.exec) (hb : c.code = cc) (hml : c.maxLocals = nL) (hown : s.vm.findClass own = some m.cls) (hts : ∀ w ∈ TT, w.before args s = true) (hK : KK G s) (hA : ∀ q, s.heap.size ≤ q → A q) (k : CVf own C idx y b nL' ret n) (hM : Ctr vI l y b nL' ret L mc ms G (.ref a :: As) wc post w1) (hw : WW G A s (wa ++ wc ++ wb) H locs) (q0 : Nat) (he : wc[q0]? = some (a, .inr (ci, fs))) (hc : classes[ci]? = some (C, Tf, N)) (hln : As.length = n) (hst : st0 = As.reverse ++ .ref a :: rest) (hsz : ls.size = nL) (hcat : (rest.map fun v => v.category).sum ≤ 8) (hR : L + 1 ≤ R.frames ∧ 8 + (nL' + 11) + 64 * L ≤ R.locals) (hf : cells + mc ≤ R.cells ∧ slots + ms ≤ R.slots) (hdg : decode cc pc = .ok (.invokevirtual idx, 3))
    (kk : ∀ (r : Int32) (u : S) (H1 : Heap) (locs1 : List Loc), post r u → WW G A s (wa ++ w1 u ++ wb) H1 locs1 → W p l e R s m args below meth c H1 locs1 (cells + mc) (slots + ms) Q (F0 m (pc + 3) ls (.int r :: rest))) : W p l e R s m args below meth c H locs cells slots Q (F0 m pc ls st0) := by
  have h := mid_sub hw
  exact xr_mid (runV hx hb hml hown hts hK k hM h.1 h.2 he hc hln hsz hst hcat hR hf hdg) hA hw kk
theorem xSM_i {post : Int32 → S → Prop} (wa wb : va_W) (hx : p.tables.exec = Jvm.exec) (hb : c.code = cc) (hml : c.maxLocals = nL) (hown : s.vm.findClass own = some m.cls) (hts : ∀ w ∈ TT, w.before args s = true) (hK : KK G s) (hA : ∀ q, s.heap.size ≤ q → A q) (k : CSf own idx y b nL' ret n) (hM : Ctr vI l y b nL' ret L mc ms G As wc post w1) (hw : WW G A s (wa ++ wc ++ wb) H locs) (hln : As.length = n) (hst : st0 = As.reverse ++ rest) (hsz : ls.size = nL) (hcat : (rest.map fun v => v.category).sum ≤ 8) (hR : L + 1 ≤ R.frames ∧ 8 + (nL' + 11) + 64 * L ≤ R.locals) (hf : cells + mc ≤ R.cells ∧ slots + ms ≤ R.slots) (hdg : decode cc pc = .ok (.invokestatic idx, 3))
    (kk : ∀ (r : Int32) (u : S) (H1 : Heap) (locs1 : List Loc), post r u → WW G A s (wa ++ w1 u ++ wb) H1 locs1 → W p l e R s m args below meth c H1 locs1 (cells + mc) (slots + ms) Q (F0 m (pc + 3) ls (.int r :: rest))) : W p l e R s m args below meth c H locs cells slots Q (F0 m pc ls st0) := by
  have h := mid_sub hw
  exact xr_mid (runS hx hb hml hown hts hK k hM h.1 h.2 hln hsz hst hcat hR hf hdg) hA hw kk
theorem xVM_j {post : Int64 → S → Prop} (wa wb : va_W) (hx : p.tables.exec = Jvm.exec) (hb : c.code = cc) (hml : c.maxLocals = nL) (hown : s.vm.findClass own = some m.cls) (hts : ∀ w ∈ TT, w.before args s = true) (hK : KK G s) (hA : ∀ q, s.heap.size ≤ q → A q) (k : CVf own C idx y b nL' ret n) (hM : Ctr vJ l y b nL' ret L mc ms G (.ref a :: As) wc post w1) (hw : WW G A s (wa ++ wc ++ wb) H locs) (q0 : Nat) (he : wc[q0]? = some (a, .inr (ci, fs))) (hc : classes[ci]? = some (C, Tf, N)) (hln : As.length = n) (hst : st0 = As.reverse ++ .ref a :: rest) (hsz : ls.size = nL) (hcat : (rest.map fun v => v.category).sum ≤ 8) (hR : L + 1 ≤ R.frames ∧ 8 + (nL' + 11) + 64 * L ≤ R.locals) (hf : cells + mc ≤ R.cells ∧ slots + ms ≤ R.slots) (hdg : decode cc pc = .ok (.invokevirtual idx, 3))
    (kk : ∀ (r : Int64) (u : S) (H1 : Heap) (locs1 : List Loc), post r u → WW G A s (wa ++ w1 u ++ wb) H1 locs1 → W p l e R s m args below meth c H1 locs1 (cells + mc) (slots + ms) Q (F0 m (pc + 3) ls (.long r :: rest))) : W p l e R s m args below meth c H locs cells slots Q (F0 m pc ls st0) := by
  have h := mid_sub hw
  exact xr_mid (runV hx hb hml hown hts hK k hM h.1 h.2 he hc hln hsz hst hcat hR hf hdg) hA hw kk
theorem xSM_j {post : Int64 → S → Prop} (wa wb : va_W) (hx : p.tables.exec = Jvm.exec) (hb : c.code = cc) (hml : c.maxLocals = nL) (hown : s.vm.findClass own = some m.cls) (hts : ∀ w ∈ TT, w.before args s = true) (hK : KK G s) (hA : ∀ q, s.heap.size ≤ q → A q) (k : CSf own idx y b nL' ret n) (hM : Ctr vJ l y b nL' ret L mc ms G As wc post w1) (hw : WW G A s (wa ++ wc ++ wb) H locs) (hln : As.length = n) (hst : st0 = As.reverse ++ rest) (hsz : ls.size = nL) (hcat : (rest.map fun v => v.category).sum ≤ 8) (hR : L + 1 ≤ R.frames ∧ 8 + (nL' + 11) + 64 * L ≤ R.locals) (hf : cells + mc ≤ R.cells ∧ slots + ms ≤ R.slots) (hdg : decode cc pc = .ok (.invokestatic idx, 3))
    (kk : ∀ (r : Int64) (u : S) (H1 : Heap) (locs1 : List Loc), post r u → WW G A s (wa ++ w1 u ++ wb) H1 locs1 → W p l e R s m args below meth c H1 locs1 (cells + mc) (slots + ms) Q (F0 m (pc + 3) ls (.long r :: rest))) : W p l e R s m args below meth c H locs cells slots Q (F0 m pc ls st0) := by
  have h := mid_sub hw
  exact xr_mid (runS hx hb hml hown hts hK k hM h.1 h.2 hln hsz hst hcat hR hf hdg) hA hw kk
theorem xVM_v {post : Unit → S → Prop} (wa wb : va_W) (hx : p.tables.exec = Jvm.exec) (hb : c.code = cc) (hml : c.maxLocals = nL) (hown : s.vm.findClass own = some m.cls) (hts : ∀ w ∈ TT, w.before args s = true) (hK : KK G s) (hA : ∀ q, s.heap.size ≤ q → A q) (k : CVf own C idx y b nL' ret n) (hM : Ctr vV l y b nL' ret L mc ms G (.ref a :: As) wc post w1) (hw : WW G A s (wa ++ wc ++ wb) H locs) (q0 : Nat) (he : wc[q0]? = some (a, .inr (ci, fs))) (hc : classes[ci]? = some (C, Tf, N)) (hln : As.length = n) (hst : st0 = As.reverse ++ .ref a :: rest) (hsz : ls.size = nL) (hcat : (rest.map fun v => v.category).sum ≤ 8) (hR : L + 1 ≤ R.frames ∧ 8 + (nL' + 11) + 64 * L ≤ R.locals) (hf : cells + mc ≤ R.cells ∧ slots + ms ≤ R.slots) (hdg : decode cc pc = .ok (.invokevirtual idx, 3))
    (kk : ∀ (r : Unit) (u : S) (H1 : Heap) (locs1 : List Loc), post r u → WW G A s (wa ++ w1 u ++ wb) H1 locs1 → W p l e R s m args below meth c H1 locs1 (cells + mc) (slots + ms) Q (F0 m (pc + 3) ls (rest))) : W p l e R s m args below meth c H locs cells slots Q (F0 m pc ls st0) := by
  have h := mid_sub hw
  exact xr_mid (runV hx hb hml hown hts hK k hM h.1 h.2 he hc hln hsz hst hcat hR hf hdg) hA hw kk
theorem xSM_v {post : Unit → S → Prop} (wa wb : va_W) (hx : p.tables.exec = Jvm.exec) (hb : c.code = cc) (hml : c.maxLocals = nL) (hown : s.vm.findClass own = some m.cls) (hts : ∀ w ∈ TT, w.before args s = true) (hK : KK G s) (hA : ∀ q, s.heap.size ≤ q → A q) (k : CSf own idx y b nL' ret n) (hM : Ctr vV l y b nL' ret L mc ms G As wc post w1) (hw : WW G A s (wa ++ wc ++ wb) H locs) (hln : As.length = n) (hst : st0 = As.reverse ++ rest) (hsz : ls.size = nL) (hcat : (rest.map fun v => v.category).sum ≤ 8) (hR : L + 1 ≤ R.frames ∧ 8 + (nL' + 11) + 64 * L ≤ R.locals) (hf : cells + mc ≤ R.cells ∧ slots + ms ≤ R.slots) (hdg : decode cc pc = .ok (.invokestatic idx, 3))
    (kk : ∀ (r : Unit) (u : S) (H1 : Heap) (locs1 : List Loc), post r u → WW G A s (wa ++ w1 u ++ wb) H1 locs1 → W p l e R s m args below meth c H1 locs1 (cells + mc) (slots + ms) Q (F0 m (pc + 3) ls (rest))) : W p l e R s m args below meth c H locs cells slots Q (F0 m pc ls st0) := by
  have h := mid_sub hw
  exact xr_mid (runS hx hb hml hown hts hK k hM h.1 h.2 hln hsz hst hcat hR hf hdg) hA hw kk
theorem xIM_v {post : Unit → S → Prop} (wa wb : va_W) (hx : p.tables.exec = Jvm.exec) (hb : c.code = cc) (hml : c.maxLocals = nL) (hown : s.vm.findClass own = some m.cls) (hts : ∀ w ∈ TT, w.before args s = true) (hK : KK G s) (hA : ∀ q, s.heap.size ≤ q → A q) (k : CIf own idx y b nL' n) (hM : Ctr vV l y b nL' none L mc ms G (.ref a :: As) wc post w1) (hw : WW G A s (wa ++ wc ++ wb) H locs) (hln : As.length = n) (hst : st0 = As.reverse ++ .ref a :: rest) (hsz : ls.size = nL) (hcat : (rest.map fun v => v.category).sum ≤ 8) (hR : L + 1 ≤ R.frames ∧ 8 + (nL' + 11) + 64 * L ≤ R.locals) (hf : cells + mc ≤ R.cells ∧ slots + ms ≤ R.slots) (hdg : decode cc pc = .ok (.invokespecial idx, 3))
    (kk : ∀ (r : Unit) (u : S) (H1 : Heap) (locs1 : List Loc), post r u → WW G A s (wa ++ w1 u ++ wb) H1 locs1 → W p l e R s m args below meth c H1 locs1 (cells + mc) (slots + ms) Q (F0 m (pc + 3) ls (rest))) : W p l e R s m args below meth c H locs cells slots Q (F0 m pc ls st0) := by
  have h := mid_sub hw
  exact xr_mid (runI hx hb hml hown hts hK k hM h.1 h.2 hln hsz hst hcat hR hf hdg) hA hw kk
theorem xVM_r {post : Nat → S → Prop} (wa wb : va_W) (hx : p.tables.exec = Jvm.exec) (hb : c.code = cc) (hml : c.maxLocals = nL) (hown : s.vm.findClass own = some m.cls) (hts : ∀ w ∈ TT, w.before args s = true) (hK : KK G s) (hA : ∀ q, s.heap.size ≤ q → A q) (k : CVf own C idx y b nL' ret n) (hM : Ctr vR l y b nL' ret L mc ms G (.ref a :: As) wc post w1) (hw : WW G A s (wa ++ wc ++ wb) H locs) (q0 : Nat) (he : wc[q0]? = some (a, .inr (ci, fs))) (hc : classes[ci]? = some (C, Tf, N)) (hln : As.length = n) (hst : st0 = As.reverse ++ .ref a :: rest) (hsz : ls.size = nL) (hcat : (rest.map fun v => v.category).sum ≤ 8) (hR : L + 1 ≤ R.frames ∧ 8 + (nL' + 11) + 64 * L ≤ R.locals) (hf : cells + mc ≤ R.cells ∧ slots + ms ≤ R.slots) (hdg : decode cc pc = .ok (.invokevirtual idx, 3))
    (kk : ∀ (r : Nat) (u : S) (H1 : Heap) (locs1 : List Loc), post r u → WW G A s (wa ++ w1 u ++ wb) H1 locs1 → W p l e R s m args below meth c H1 locs1 (cells + mc) (slots + ms) Q (F0 m (pc + 3) ls (.ref r :: rest))) : W p l e R s m args below meth c H locs cells slots Q (F0 m pc ls st0) := by
  have h := mid_sub hw
  exact xr_mid (runV hx hb hml hown hts hK k hM h.1 h.2 he hc hln hsz hst hcat hR hf hdg) hA hw kk
theorem xSM_r {post : Nat → S → Prop} (wa wb : va_W) (hx : p.tables.exec = Jvm.exec) (hb : c.code = cc) (hml : c.maxLocals = nL) (hown : s.vm.findClass own = some m.cls) (hts : ∀ w ∈ TT, w.before args s = true) (hK : KK G s) (hA : ∀ q, s.heap.size ≤ q → A q) (k : CSf own idx y b nL' ret n) (hM : Ctr vR l y b nL' ret L mc ms G As wc post w1) (hw : WW G A s (wa ++ wc ++ wb) H locs) (hln : As.length = n) (hst : st0 = As.reverse ++ rest) (hsz : ls.size = nL) (hcat : (rest.map fun v => v.category).sum ≤ 8) (hR : L + 1 ≤ R.frames ∧ 8 + (nL' + 11) + 64 * L ≤ R.locals) (hf : cells + mc ≤ R.cells ∧ slots + ms ≤ R.slots) (hdg : decode cc pc = .ok (.invokestatic idx, 3))
    (kk : ∀ (r : Nat) (u : S) (H1 : Heap) (locs1 : List Loc), post r u → WW G A s (wa ++ w1 u ++ wb) H1 locs1 → W p l e R s m args below meth c H1 locs1 (cells + mc) (slots + ms) Q (F0 m (pc + 3) ls (.ref r :: rest))) : W p l e R s m args below meth c H locs cells slots Q (F0 m pc ls st0) := by
  have h := mid_sub hw
  exact xr_mid (runS hx hb hml hown hts hK k hM h.1 h.2 hln hsz hst hcat hR hf hdg) hA hw kk
end CALMS
