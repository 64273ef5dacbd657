-- a static call whose callee throws, in a method without handlers
section XST
variable {p : Program} {l : Launch} {e : Env} {R : Room} {s : State} {m : MethodId} {args : Array Value} {below : List Frame} {meth : Method} {c : Code} {H : Heap} {locs : List Loc} {cells slots : Nat} {cc : ByteArray} {pc : Nat} {ls : Array Slot} {rest st0 : List Value} {G : GG} {A : Nat → Prop} {mc ms MC MS L nL nL' n idx : Nat} {S : Type} {own : String} {y : MethodName} {b : ByteArray} {ret : Option FieldType} {As : List Value} {cls : String}
theorem prt_blind {av : List Value} {sz : Nat} {w : va_W} : FrameBlind (va_Pc av (PRT G sz w)) := fun a U g mk h => ⟨h.1, ⟨h.2.1.1, h.2.1.2.1, h.2.1.2.2.1, h.2.1.2.2.2.call⟩, h.2.2.move (State.WarmedH.refl _) (fun a cell h1 _ => h1)⟩
theorem keepS_of {U : State} (hS : va_S A s.heap H locs) (hNS : NS s A) (hU : U.heap = H) : KeepS s U := by
  intro a cell h1 h2
  rw [hU, hS.2.1 a (Array.getElem?_eq_some_iff.mp h1).1 (hNS a cell h1 h2)]; exact h1
theorem r_xst {post : S → Prop} {w1 : S → va_W} (u : S) (hx : p.tables.exec = Jvm.exec) (hb : c.code = cc) (hml : c.maxLocals = nL) (hown : s.vm.findClass own = some m.cls) (hts : ∀ w ∈ TT, w.before args s = true) (hK : KK G s) (hA : ∀ q, s.heap.size ≤ q → A q) (hw : WW G A s (w1 u) H locs) (hp : post u)
    (hSR : SR s) (hNS : NS s A) (hemp : c.exceptionTable.isEmpty = true) (hlk : meth.locks = false)
    (k : CSf own idx y b nL' ret n) (hM : CtrT (S := Unit) l y b nL' ret L mc ms G As [] cls (fun _ => True) (fun _ => []))
    (hn : As.length = n) (hst : st0 = As.reverse ++ rest) (hsz : ls.size = nL) (hcat : (rest.map fun v => v.category).sum ≤ 8) (hR : L + 1 ≤ R.frames ∧ 8 + (nL' + 11) + 64 * L ≤ R.locals) (hf : cells + mc ≤ R.cells ∧ slots + ms ≤ R.slots) (hMC : cells + mc ≤ MC) (hMS : slots + ms ≤ MS) (hdg : decode cc pc = .ok (.invokestatic idx, 3)) :
    W p l e R s m args below meth c H locs cells slots (MQT below (QT post w1 cls G A) args s MC MS A) (F0 m pc ls st0) := by
  intro T0 hT X
  have hP0 : va_P G.1 classes [] H := fun k q h => absurd h (by simp)
  have hD0 : va_D A [] := ⟨fun i j p q h => absurd h (by simp), fun k q h => absurd h (by simp)⟩
  have hpre : PreS s H (va_Pc As (PRT G H.size [])) As := ⟨prt_blind, fun U hU hW => ⟨rfl, pr_of hK hP0 hD0 hU hW, hSR.move hW (keepS_of hw.2.2 hNS hU)⟩⟩
  obtain ⟨x, st₀, t, T', L9, h0, hW0, X', hL, e1, ⟨-, ⟨hz, hk⟩, ce, hce, hcl, hst9⟩, st⟩ := run_ST (nL := nL) (l := l) (below := below) (meth := meth) (locs := locs) (cells := cells) (slots := slots) (rest := rest) (g := F0 m pc ls st0) (Ts := TT) ⟨hx, hb, hml, hown, hts⟩ (hM H.size) (va_cwS n hts k.1 rfl rfl rfl k.2 hR) hpre rfl hn hsz hst (lv_room hcat) hdg hf T0 hT X
  rw [h0] at hz hk
  have hkeep : ∀ q : Nat, q < H.size → T'.heap[q]? = H[q]? := fun q hq => by
    rw [e1]
    refine hk q hq (fun z => ?_)
    rcases z with ⟨k9, e9, h9⟩ | h9
    · cases h9
    · omega
  have hge : ∀ q, va_A [] H.size q → A q := fun q z => by
    rcases z with ⟨k9, e9, h9⟩ | h9
    · cases h9
    · exact hA q (Nat.le_trans hw.2.2.1 h9)
  obtain ⟨hwalk, hrun, hended, hWU, hsame⟩ := X'.leaveThrown x (g := { (F0 m pc ls st0) with stack := rest }) rfl rfl rfl (fun y hy => by
      have : c.exceptionTable.toList = [] := by simpa [Array.isEmpty_iff] using hemp
      rw [this] at hy; cases hy) hlk
  refine ⟨_, st.trans hwalk, x, hrun, hended, ⟨⟨u, hp, ?_, hw.2.1⟩, ⟨?_, fun q h1 h2 => ?_⟩, ce, ?_, ?_, hst9⟩, locs ++ L9, ⟨⟨x, rfl⟩, hWU, hsame.weaken (fun y hy _ => hy) hMC hMS⟩, fun q hq => ?_⟩
  · intro k9 q9 h9
    exact (hw.1 k9 q9 h9).kept (hkeep q9.1 (hw.1 k9 q9 h9).lt)
  · show s.heap.size ≤ T'.heap.size
    rw [e1]; exact Nat.le_trans hw.2.2.1 hz
  · show T'.heap[q]? = s.heap[q]?
    rw [hkeep q (Nat.lt_of_lt_of_le h1 hw.2.2.1)]; exact hw.2.2.2.1 q h1 h2
  · show T'.heap[x]? = some ce
    rw [e1]; exact hce
  · rw [← hW0.alike.findClass]; exact hcl
  · rcases List.mem_append.mp hq with h | h
    · exact hw.2.2.2.2 q h
    · exact hge _ (hL q h)
end XST
