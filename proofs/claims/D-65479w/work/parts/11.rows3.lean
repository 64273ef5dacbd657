-- own rows, fourth part: bits by Nat values, returns under a named end, switches
theorem nw_and (a b : Nat) : nI a &&& nI b = nI (a &&& b) := by
  apply Int32.toBitVec_inj.mp
  rw [Int32.toBitVec_and]
  show BitVec.ofNat 32 a &&& BitVec.ofNat 32 b = BitVec.ofNat 32 (a &&& b)
  apply BitVec.eq_of_toNat_eq
  simp [BitVec.toNat_and, BitVec.toNat_ofNat, Nat.and_mod_two_pow]
theorem nw_or (a b : Nat) : nI a ||| nI b = nI (a ||| b) := by
  apply Int32.toBitVec_inj.mp
  rw [Int32.toBitVec_or]
  show BitVec.ofNat 32 a ||| BitVec.ofNat 32 b = BitVec.ofNat 32 (a ||| b)
  apply BitVec.eq_of_toNat_eq
  simp [BitVec.toNat_or, BitVec.toNat_ofNat, Nat.or_mod_two_pow]
theorem nw_s : ∀ k, k < 32 → ((nI k &&& 31).toBitVec.smod 32).toNat = k := by decide +kernel
section BT
variable {p : Program} {l : Launch} {e : Env} {R : Room} {s : State} {m : MethodId} {args : Array Value} {below : List Frame} {meth : Method} {c : Code} {H : Heap} {locs : List Loc} {cells slots : Nat} {Q Q' : State → Prop} {cc : ByteArray} {pc : Nat} {ls : Array Slot} {rest : List Value} {g : JFrame}
theorem r_ret (hQ : Q' = Q) (h : W p l e R s m args below meth c H locs cells slots Q' g) : W p l e R s m args below meth c H locs cells slots Q g := hQ ▸ h
theorem r_iandN (hx : p.tables.exec = Jvm.exec) (hb : c.code = cc) {x y : Nat} (hdg : decode cc pc = .ok (.iand, 1)) (k : W p l e R s m args below meth c H locs cells slots Q (F0 m (pc + 1) ls (.int (nI (x &&& y)) :: rest))) : W p l e R s m args below meth c H locs cells slots Q (F0 m pc ls (.int (nI y) :: .int (nI x) :: rest)) := by
  refine lv_iand hx hb hdg ?_
  rw [nw_and]; exact k
theorem r_iorN (hx : p.tables.exec = Jvm.exec) (hb : c.code = cc) {x y : Nat} (hdg : decode cc pc = .ok (.ior, 1)) (k : W p l e R s m args below meth c H locs cells slots Q (F0 m (pc + 1) ls (.int (nI (x ||| y)) :: rest))) : W p l e R s m args below meth c H locs cells slots Q (F0 m pc ls (.int (nI y) :: .int (nI x) :: rest)) := by
  refine lv_ior hx hb hdg ?_
  rw [nw_or]; exact k
theorem r_ishlN (hx : p.tables.exec = Jvm.exec) (hb : c.code = cc) {x k : Nat} (hk : k < 32) (hlt : x * 2 ^ k < 4294967296) (hdg : decode cc pc = .ok (.ishl, 1)) (kk : W p l e R s m args below meth c H locs cells slots Q (F0 m (pc + 1) ls (.int (nI (x * 2 ^ k)) :: rest))) : W p l e R s m args below meth c H locs cells slots Q (F0 m pc ls (.int (nI k) :: .int (nI x) :: rest)) := by
  refine lv_ishl hx hb hdg ?_
  rw [pk_shlN (nI k &&& 31) k (nw_s k hk) hlt]; exact kk
theorem r_ishrN (hx : p.tables.exec = Jvm.exec) (hb : c.code = cc) {x k : Nat} (hk : k < 32) (hlt : x < 2147483648) (hdg : decode cc pc = .ok (.ishr, 1)) (kk : W p l e R s m args below meth c H locs cells slots Q (F0 m (pc + 1) ls (.int (nI (x / 2 ^ k)) :: rest))) : W p l e R s m args below meth c H locs cells slots Q (F0 m pc ls (.int (nI k) :: .int (nI x) :: rest)) := by
  refine lv_ishr hx hb hdg ?_
  rw [pk_shrN hlt (nI k &&& 31) k (nw_s k hk)]; exact kk
end BT
theorem sw_outN {x : Int32} (n : Nat) (hn : n < 1000) (h : ∀ j, j < n + 1 → ¬ x = nI j) : x.toInt < 0 ∨ (n : Int) < x.toInt := by
  by_cases h0 : x < 0
  · exact Or.inl (by rw [Int32.lt_iff_toInt_lt] at h0; simpa using h0)
  · obtain ⟨j, hj, rfl⟩ := nI_of h0
    rw [nI_toInt hj]
    by_cases hjn : j < n + 1
    · exact absurd rfl (h j hjn)
    · right; omega
theorem sw_out6 {x : Int32} (h : ∀ j, j < 6 → ¬ x = nI j) : x.toInt < 0 ∨ 5 < x.toInt := sw_outN 5 (by decide) h
theorem sw_out5 {x : Int32} (h : ∀ j, j < 5 → ¬ x = nI j) : x.toInt < 0 ∨ 4 < x.toInt := sw_outN 4 (by decide) h
theorem sw_out11 {x : Int32} (h : ∀ j, j < 11 → ¬ x = nI j) : x.toInt < 0 ∨ 10 < x.toInt := sw_outN 10 (by decide) h
theorem sw_out13 {x : Int32} (h : ∀ j, j < 13 → ¬ x = nI j) : x.toInt < 0 ∨ 12 < x.toInt := sw_outN 12 (by decide) h
