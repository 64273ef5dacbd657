theorem wh_5 {E : List Ent} {S : List Nat} {k wt : Nat} (h0 : ¬ nI wt = nI 0) (h1 : ¬ nI wt = nI 1) (h2 : ¬ nI wt = nI 2) (h3 : ¬ nI wt = nI 3) (h4 : ¬ nI wt = nI 4) (h : wt < 6) : nI (E.getD k eD).2.2.2.2 = whA E S k wt := by
  have a0 : wt ≠ 0 := fun z => h0 (by rw [z])
  have a1 : wt ≠ 1 := fun z => h1 (by rw [z])
  have a2 : wt ≠ 2 := fun z => h2 (by rw [z])
  have a3 : wt ≠ 3 := fun z => h3 (by rw [z])
  have a4 : wt ≠ 4 := fun z => h4 (by rw [z])
  unfold whA
  rw [if_neg a0, if_neg a1, if_neg a2, if_neg a3, if_neg a4]
theorem way_par {E : List Ent} {i k : Nat} (h : LIa E) (hk : k < E.length) (hl : i < lvE E k) : ∃ j, j < k ∧ frE E k = nI j ∧ lvE E k = lvE E j + 1 := by
  rcases h k hk with h1 | h1
  · omega
  · exact h1
theorem lv_le {E : List Ent} (h : LIa E) : ∀ k, k < E.length → lvE E k ≤ k := by
  intro k
  induction k using Nat.strongRecOn with
  | ind k ih =>
    intro hk
    rcases h k hk with h1 | ⟨i, h1, -, h2⟩
    · omega
    · have := ih i h1 (by omega)
      omega
set_option maxHeartbeats 4000000 in
set_option maxRecDepth 100000 in
theorem c_X_isWhole (zl : Launch) (G : GG) (ad qa : Nat → Nat) (fm : Nat → Int64) (fs js : Nat → Nat → Int32) (zv : Nat → Value) (fb fn : Nat → Int32) (rr : Nat → Option Nat) (rp : va_W) (n room Sx Kx j : Nat) (ps : List (List Nat)) (B : Nat → Bool) (rs : List Rl) (E : List Ent) (S : List Nat) (md ag ov : Nat) (k : Nat) (hX : XR E j fm fs) (hE : EOK n room E) (hk : k < E.length) : Ctr (S := (Nat → Int32) × (Nat → Int32)) vV zl y_X_isWhole b_X_isWhole 2 (Option.none : Option Jvm.ClassFile.FieldType) 1 0 0 G [.ref (ad 0), .int (nI k)] ([oX (ad 0) [.int (nI n), .int (nI room), .int (nI Sx), .int (nI Kx), .ref (ad 17), .int (nI rs.length), .ref (ad 1), .ref (ad 2), .int (nI ps.length), .ref (qa 1), .ref (qa 2), .ref (qa 3), .ref (qa 4), .ref (qa 5), .ref (qa 6), .int (nI E.length), .int (nI S.length), .ref (qa 7), .int (boF ov E.length), .int (fuF ov), .int (nI md), .int (nI ag), .ref (ad 18), .ref (ad 10), .ref (ad 13), .ref (ad 16), zv 2], aZ G (ad 1) 64 fb, aI G (ad 2) 96 fn, aJ G (qa 1) (64 * 2 ^ j) fm, aI G (qa 2) (64 * 2 ^ j) (fs 2), aI G (qa 3) (64 * 2 ^ j) (fs 3), aI G (qa 4) (64 * 2 ^ j) (fs 4), aI G (qa 5) (64 * 2 ^ j) (fs 5), aI G (qa 6) (64 * 2 ^ j) (fs 6), aI G (qa 7) (2 ^ (8 + j)) (fs 7), oW (ad 10) [.ref (ad 11), .ref (ad 12), zv 0], aI G (ad 11) 4 (js 1), aI G (ad 12) 8 (js 2), oW (ad 13) [.ref (ad 14), .ref (ad 15), zv 1], aI G (ad 14) 4 (js 3), aI G (ad 15) 8 (js 4), aI G (ad 16) 4 (js 0), aR G (ad 17) 40 rr, oW (ad 18) [.ref (ad 19), .ref (ad 20), zv 3], aI G (ad 19) 4 (js 5), aI G (ad 20) 8 (js 6)] ++ rp) (fun _ u => Sts u.1 (E.getD k eD).1 ∧ Cds u.2 0 (E.getD k eD).1.2) (fun u => [oX (ad 0) [.int (nI n), .int (nI room), .int (nI Sx), .int (nI Kx), .ref (ad 17), .int (nI rs.length), .ref (ad 1), .ref (ad 2), .int (nI ps.length), .ref (qa 1), .ref (qa 2), .ref (qa 3), .ref (qa 4), .ref (qa 5), .ref (qa 6), .int (nI E.length), .int (nI S.length), .ref (qa 7), .int (boF ov E.length), .int (fuF ov), .int (nI md), .int (nI ag), .ref (ad 18), .ref (ad 10), .ref (ad 13), .ref (ad 16), zv 2], aZ G (ad 1) 64 fb, aI G (ad 2) 96 fn, aJ G (qa 1) (64 * 2 ^ j) fm, aI G (qa 2) (64 * 2 ^ j) (fs 2), aI G (qa 3) (64 * 2 ^ j) (fs 3), aI G (qa 4) (64 * 2 ^ j) (fs 4), aI G (qa 5) (64 * 2 ^ j) (fs 5), aI G (qa 6) (64 * 2 ^ j) (fs 6), aI G (qa 7) (2 ^ (8 + j)) (fs 7), oW (ad 10) [.ref (ad 11), .ref (ad 12), zv 0], aI G (ad 11) 4 (js 1), aI G (ad 12) 8 (js 2), oW (ad 13) [.ref (ad 14), .ref (ad 15), zv 1], aI G (ad 14) 4 (js 3), aI G (ad 15) 8 (js 4), aI G (ad 16) 4 (js 0), aR G (ad 17) 40 rr, oW (ad 18) [.ref (ad 19), .ref (ad 20), .int (nI ((E.getD k eD).1.2.length))], aI G (ad 19) 4 u.1, aI G (ad 20) 8 u.2] ++ rp) := by
  refine Ctr.start (by decide) (Nat.le_of_ble_eq_true rfl) ?_
  intro zp ze zs zm below meth zc A ls C0 hin hK hA hl hw
  obtain ⟨hx, hb, hr, hlk, hml, hown, hts⟩ := C0
  obtain ⟨R, hRR⟩ : ∃ R : Room, R = rmL 1 0 0 := ⟨_, rfl⟩
  have hRf : R.frames = 1 := by rw [hRR]
  have hRl : R.locals = 64 * 1 := by rw [hRR]
  have hRc : R.cells = 0 := by rw [hRR]
  have hRs : R.slots = 0 := by rw [hRR]
  rw [← hRR]; clear hRR
  generalize hQ : MQ below _ _ zs _ _ A = Q
  generalize hAr : List.toArray _ = args at hts hQ ⊢
  replace hl : lv_has ls 2 [(0, .ref (ad 0)), (1, .int (nI k))] := hl
  obtain ⟨H, eH⟩ : ∃ H : Heap, H = zs.heap := ⟨_, rfl⟩
  obtain ⟨locs, eL⟩ : ∃ l0 : List Loc, l0 = [] := ⟨_, rfl⟩
  rw [← eH, ← eL] at hw ⊢; clear eH eL
  have hE8 := hE.2.2
  have hln := hX.2.2.1
  have hpw := pow_mono hX.2.2.2
  have hV : Vl n (E.getD k eD).1 := hE.1 _ (getD_memE hk)
  refine lv_iload_n hx hb d_X_isWhole_0 rfl (lv_at hl 1 rfl) ?_
  refine lv_if_lt (tgt := 16) hx hb d_X_isWhole_1 (by decide) (fun c_1 => ?_) (fun c_1 => ?_)
  · skip
    exact absurd c_1 (nI_pos (by omega))
  · skip
    refine lv_iload_n hx hb d_X_isWhole_4 rfl (lv_at hl 1 rfl) ?_
    refine lv_aload_n hx hb d_X_isWhole_5 rfl (lv_at hl 0 rfl) ?_
    refine g_X_99 hx hb hts hown hK hw 0 rfl rfl d_X_isWhole_6 ?_
    refine r_icmp_ge (tgt := 16) hx hb (by omega) (by omega) d_X_isWhole_9 (by decide) (fun c_9 => ?_) (fun c_9 => ?_)
    · skip
      exfalso; omega
    · skip
      refine lv_iconst (v := nI 1) hx hb d_X_isWhole_12 rfl ?_
      refine lv_goto (tgt := 17) hx hb d_X_isWhole_13 (by decide) ?_
      refine xS_v (rest := []) (As := [.int (nI 1)]) hx hb hml hown hts hK hA hw k_X_243 (c_X_there zl G) ([]) rfl rfl (fun _ => Nat.le_of_ble_eq_true rfl) rfl rfl hl.1 (Nat.le_of_ble_eq_true rfl) ⟨(by omega), (by omega)⟩ ⟨(by omega), (by omega)⟩ d_X_isWhole_17 (fun _ u H locs hp hw1 => ?_)
      refine W.cs (cells' := 0) (slots' := 0) rfl rfl ?_
      replace hw : WW G A zs ([oX (ad 0) [.int (nI n), .int (nI room), .int (nI Sx), .int (nI Kx), .ref (ad 17), .int (nI rs.length), .ref (ad 1), .ref (ad 2), .int (nI ps.length), .ref (qa 1), .ref (qa 2), .ref (qa 3), .ref (qa 4), .ref (qa 5), .ref (qa 6), .int (nI E.length), .int (nI S.length), .ref (qa 7), .int (boF ov E.length), .int (fuF ov), .int (nI md), .int (nI ag), .ref (ad 18), .ref (ad 10), .ref (ad 13), .ref (ad 16), zv 2], aZ G (ad 1) 64 fb, aI G (ad 2) 96 fn, aJ G (qa 1) (64 * 2 ^ j) fm, aI G (qa 2) (64 * 2 ^ j) (fs 2), aI G (qa 3) (64 * 2 ^ j) (fs 3), aI G (qa 4) (64 * 2 ^ j) (fs 4), aI G (qa 5) (64 * 2 ^ j) (fs 5), aI G (qa 6) (64 * 2 ^ j) (fs 6), aI G (qa 7) (2 ^ (8 + j)) (fs 7), oW (ad 10) [.ref (ad 11), .ref (ad 12), zv 0], aI G (ad 11) 4 (js 1), aI G (ad 12) 8 (js 2), oW (ad 13) [.ref (ad 14), .ref (ad 15), zv 1], aI G (ad 14) 4 (js 3), aI G (ad 15) 8 (js 4), aI G (ad 16) 4 (js 0), aR G (ad 17) 40 rr, oW (ad 18) [.ref (ad 19), .ref (ad 20), zv 3], aI G (ad 19) 4 (js 5), aI G (ad 20) 8 (js 6)] ++ rp) H locs := hw1
      refine lv_aload_n hx hb d_X_isWhole_20 rfl (lv_at hl 0 rfl) ?_
      refine g_X_55 hx hb hts hown hK hw 0 rfl rfl d_X_isWhole_21 ?_
      refine lv_aload_n hx hb d_X_isWhole_24 rfl (lv_at hl 0 rfl) ?_
      refine g_X_27 hx hb hts hown hK hw 0 rfl rfl d_X_isWhole_25 ?_
      refine lv_iload_n hx hb d_X_isWhole_28 rfl (lv_at hl 1 rfl) ?_
      refine r_lald hx hb hK hw 3 rfl (by omega) (by omega) d_X_isWhole_29 ?_
      refine r_eqJ (show fm k = lN (pk (E.getD k eD).1) from (hX.1 k hk).1) ?_
      refine xV_v (rest := []) (As := [.long (lN (pk (E.getD k eD).1))]) hx hb hml hown hts hK hA hw k_X_227 (c_W_unpack zl G (ad 18) (ad 19) (ad 20) n (zv 3) (js 5) (js 6) (E.getD k eD).1 hV) ([18, 19, 20]) rfl rfl (fun _ => Nat.le_of_ble_eq_true rfl) 0 rfl rfl rfl rfl hl.1 (Nat.le_of_ble_eq_true rfl) ⟨(by omega), (by omega)⟩ ⟨(by omega), (by omega)⟩ d_X_isWhole_30 (fun _ u9 H locs hp hw1 => ?_)
      obtain ⟨fh, gh⟩ := u9
      refine W.cs (cells' := 0) (slots' := 0) rfl rfl ?_
      replace hw : WW G A zs ([oX (ad 0) [.int (nI n), .int (nI room), .int (nI Sx), .int (nI Kx), .ref (ad 17), .int (nI rs.length), .ref (ad 1), .ref (ad 2), .int (nI ps.length), .ref (qa 1), .ref (qa 2), .ref (qa 3), .ref (qa 4), .ref (qa 5), .ref (qa 6), .int (nI E.length), .int (nI S.length), .ref (qa 7), .int (boF ov E.length), .int (fuF ov), .int (nI md), .int (nI ag), .ref (ad 18), .ref (ad 10), .ref (ad 13), .ref (ad 16), zv 2], aZ G (ad 1) 64 fb, aI G (ad 2) 96 fn, aJ G (qa 1) (64 * 2 ^ j) fm, aI G (qa 2) (64 * 2 ^ j) (fs 2), aI G (qa 3) (64 * 2 ^ j) (fs 3), aI G (qa 4) (64 * 2 ^ j) (fs 4), aI G (qa 5) (64 * 2 ^ j) (fs 5), aI G (qa 6) (64 * 2 ^ j) (fs 6), aI G (qa 7) (2 ^ (8 + j)) (fs 7), oW (ad 10) [.ref (ad 11), .ref (ad 12), zv 0], aI G (ad 11) 4 (js 1), aI G (ad 12) 8 (js 2), oW (ad 13) [.ref (ad 14), .ref (ad 15), zv 1], aI G (ad 14) 4 (js 3), aI G (ad 15) 8 (js 4), aI G (ad 16) 4 (js 0), aR G (ad 17) 40 rr, oW (ad 18) [.ref (ad 19), .ref (ad 20), .int (nI ((E.getD k eD).1.2.length))], aI G (ad 19) 4 fh, aI G (ad 20) 8 gh] ++ rp) H locs := hw1
      exact r_ret hQ (r_vret (fh, gh) hx hb hr hlk hw hp (by omega) (by omega) d_X_isWhole_33)
set_option maxHeartbeats 4000000 in
set_option maxRecDepth 100000 in
theorem c_X_node (zl : Launch) (G : GG) (ad qa : Nat → Nat) (fm : Nat → Int64) (fs js : Nat → Nat → Int32) (zv : Nat → Value) (fb fn : Nat → Int32) (rr : Nat → Option Nat) (rp : va_W) (n room Sx Kx j : Nat) (ps : List (List Nat)) (B : Nat → Bool) (rs : List Rl) (E : List Ent) (S : List Nat) (md ag ov : Nat) (k i : Nat) (hX : XR E j fm fs) (hE : EOK n room E) (hk : k < E.length) (hi : i < n) (hn4 : n ≤ 4) : Ctr (S := (Nat → Nat → Int32) × (Nat → Value)) vI zl y_X_node b_X_node 3 (Option.some Jvm.ClassFile.FieldType.int) 2 0 0 G [.ref (ad 0), .int (nI k), .int (nI i)] ([oX (ad 0) [.int (nI n), .int (nI room), .int (nI Sx), .int (nI Kx), .ref (ad 17), .int (nI rs.length), .ref (ad 1), .ref (ad 2), .int (nI ps.length), .ref (qa 1), .ref (qa 2), .ref (qa 3), .ref (qa 4), .ref (qa 5), .ref (qa 6), .int (nI E.length), .int (nI S.length), .ref (qa 7), .int (boF ov E.length), .int (fuF ov), .int (nI md), .int (nI ag), .ref (ad 18), .ref (ad 10), .ref (ad 13), .ref (ad 16), zv 2], aZ G (ad 1) 64 fb, aI G (ad 2) 96 fn, aJ G (qa 1) (64 * 2 ^ j) fm, aI G (qa 2) (64 * 2 ^ j) (fs 2), aI G (qa 3) (64 * 2 ^ j) (fs 3), aI G (qa 4) (64 * 2 ^ j) (fs 4), aI G (qa 5) (64 * 2 ^ j) (fs 5), aI G (qa 6) (64 * 2 ^ j) (fs 6), aI G (qa 7) (2 ^ (8 + j)) (fs 7), oW (ad 10) [.ref (ad 11), .ref (ad 12), zv 0], aI G (ad 11) 4 (js 1), aI G (ad 12) 8 (js 2), oW (ad 13) [.ref (ad 14), .ref (ad 15), zv 1], aI G (ad 14) 4 (js 3), aI G (ad 15) 8 (js 4), aI G (ad 16) 4 (js 0), aR G (ad 17) 40 rr, oW (ad 18) [.ref (ad 19), .ref (ad 20), zv 3], aI G (ad 19) 4 (js 5), aI G (ad 20) 8 (js 6)] ++ rp) (fun r _ => r = nI (dg (E.getD k eD).1 i)) (fun u => [oX (ad 0) [.int (nI n), .int (nI room), .int (nI Sx), .int (nI Kx), .ref (ad 17), .int (nI rs.length), .ref (ad 1), .ref (ad 2), .int (nI ps.length), .ref (qa 1), .ref (qa 2), .ref (qa 3), .ref (qa 4), .ref (qa 5), .ref (qa 6), .int (nI E.length), .int (nI S.length), .ref (qa 7), .int (boF ov E.length), .int (fuF ov), .int (nI md), .int (nI ag), .ref (ad 18), .ref (ad 10), .ref (ad 13), .ref (ad 16), u.2 2], aZ G (ad 1) 64 fb, aI G (ad 2) 96 fn, aJ G (qa 1) (64 * 2 ^ j) fm, aI G (qa 2) (64 * 2 ^ j) (fs 2), aI G (qa 3) (64 * 2 ^ j) (fs 3), aI G (qa 4) (64 * 2 ^ j) (fs 4), aI G (qa 5) (64 * 2 ^ j) (fs 5), aI G (qa 6) (64 * 2 ^ j) (fs 6), aI G (qa 7) (2 ^ (8 + j)) (fs 7), oW (ad 10) [.ref (ad 11), .ref (ad 12), u.2 0], aI G (ad 11) 4 (u.1 1), aI G (ad 12) 8 (u.1 2), oW (ad 13) [.ref (ad 14), .ref (ad 15), u.2 1], aI G (ad 14) 4 (u.1 3), aI G (ad 15) 8 (u.1 4), aI G (ad 16) 4 (u.1 0), aR G (ad 17) 40 rr, oW (ad 18) [.ref (ad 19), .ref (ad 20), u.2 3], aI G (ad 19) 4 (u.1 5), aI G (ad 20) 8 (u.1 6)] ++ rp) := by
  refine Ctr.start (by decide) (Nat.le_of_ble_eq_true rfl) ?_
  intro zp ze zs zm below meth zc A ls C0 hin hK hA hl hw
  obtain ⟨hx, hb, hr, hlk, hml, hown, hts⟩ := C0
  obtain ⟨R, hRR⟩ : ∃ R : Room, R = rmL 2 0 0 := ⟨_, rfl⟩
  have hRf : R.frames = 2 := by rw [hRR]
  have hRl : R.locals = 64 * 2 := by rw [hRR]
  have hRc : R.cells = 0 := by rw [hRR]
  have hRs : R.slots = 0 := by rw [hRR]
  rw [← hRR]; clear hRR
  generalize hQ : MQ below _ _ zs _ _ A = Q
  generalize hAr : List.toArray _ = args at hts hQ ⊢
  replace hl : lv_has ls 3 [(0, .ref (ad 0)), (1, .int (nI k)), (2, .int (nI i))] := hl
  obtain ⟨H, eH⟩ : ∃ H : Heap, H = zs.heap := ⟨_, rfl⟩
  obtain ⟨locs, eL⟩ : ∃ l0 : List Loc, l0 = [] := ⟨_, rfl⟩
  rw [← eH, ← eL] at hw ⊢; clear eH eL
  have hE8 := hE.2.2
  have hln := hX.2.2.1
  have hpw := pow_mono hX.2.2.2
  refine lv_aload_n hx hb d_X_node_0 rfl (lv_at hl 0 rfl) ?_
  refine lv_iload_n hx hb d_X_node_1 rfl (lv_at hl 1 rfl) ?_
  refine xVA_v (rest := []) (As := [.int (nI k)]) hx hb hml hown hts hK hA hw k_X_246 (c_X_isWhole zl G ad qa fm fs js zv fb fn rr rp n room Sx Kx j ps B rs E S md ag ov k hX hE hk) 0 rfl rfl rfl rfl hl.1 (Nat.le_of_ble_eq_true rfl) ⟨(by omega), (by omega)⟩ ⟨(by omega), (by omega)⟩ d_X_node_2 (fun _ u9 H locs hp hw1 => ?_)
  obtain ⟨fh, gh⟩ := u9
  obtain ⟨hfh, hgh⟩ := hp
  dsimp only at hfh hgh
  refine W.cs (cells' := 0) (slots' := 0) rfl rfl ?_
  replace hw : WW G A zs ([oX (ad 0) [.int (nI n), .int (nI room), .int (nI Sx), .int (nI Kx), .ref (ad 17), .int (nI rs.length), .ref (ad 1), .ref (ad 2), .int (nI ps.length), .ref (qa 1), .ref (qa 2), .ref (qa 3), .ref (qa 4), .ref (qa 5), .ref (qa 6), .int (nI E.length), .int (nI S.length), .ref (qa 7), .int (boF ov E.length), .int (fuF ov), .int (nI md), .int (nI ag), .ref (ad 18), .ref (ad 10), .ref (ad 13), .ref (ad 16), zv 2], aZ G (ad 1) 64 fb, aI G (ad 2) 96 fn, aJ G (qa 1) (64 * 2 ^ j) fm, aI G (qa 2) (64 * 2 ^ j) (fs 2), aI G (qa 3) (64 * 2 ^ j) (fs 3), aI G (qa 4) (64 * 2 ^ j) (fs 4), aI G (qa 5) (64 * 2 ^ j) (fs 5), aI G (qa 6) (64 * 2 ^ j) (fs 6), aI G (qa 7) (2 ^ (8 + j)) (fs 7), oW (ad 10) [.ref (ad 11), .ref (ad 12), zv 0], aI G (ad 11) 4 (js 1), aI G (ad 12) 8 (js 2), oW (ad 13) [.ref (ad 14), .ref (ad 15), zv 1], aI G (ad 14) 4 (js 3), aI G (ad 15) 8 (js 4), aI G (ad 16) 4 (js 0), aR G (ad 17) 40 rr, oW (ad 18) [.ref (ad 19), .ref (ad 20), .int (nI ((E.getD k eD).1.2.length))], aI G (ad 19) 4 fh, aI G (ad 20) 8 gh] ++ rp) H locs := hw1
  refine lv_iload_n hx hb d_X_node_5 rfl (lv_at hl 2 rfl) ?_
  refine lv_if_lt (tgt := 21) hx hb d_X_node_6 (by decide) (fun c_6 => ?_) (fun c_6 => ?_)
  · skip
    exact absurd c_6 (nI_pos (by omega))
  · skip
    refine lv_iload_n hx hb d_X_node_9 rfl (lv_at hl 2 rfl) ?_
    refine lv_aload_n hx hb d_X_node_10 rfl (lv_at hl 0 rfl) ?_
    refine g_X_74 hx hb hts hown hK hw 0 rfl rfl d_X_node_11 ?_
    refine r_icmp_ge (tgt := 21) hx hb (by omega) (by omega) d_X_node_14 (by decide) (fun c_14 => ?_) (fun c_14 => ?_)
    · skip
      exfalso; omega
    · skip
      refine lv_iconst (v := nI 1) hx hb d_X_node_17 rfl ?_
      refine lv_goto (tgt := 22) hx hb d_X_node_18 (by decide) ?_
      refine xS_v (rest := []) (As := [.int (nI 1)]) hx hb hml hown hts hK hA hw k_X_243 (c_X_there zl G) ([]) rfl rfl (fun _ => Nat.le_of_ble_eq_true rfl) rfl rfl hl.1 (Nat.le_of_ble_eq_true rfl) ⟨(by omega), (by omega)⟩ ⟨(by omega), (by omega)⟩ d_X_node_22 (fun _ u H locs hp hw1 => ?_)
      refine W.cs (cells' := 0) (slots' := 0) rfl rfl ?_
      replace hw : WW G A zs ([oX (ad 0) [.int (nI n), .int (nI room), .int (nI Sx), .int (nI Kx), .ref (ad 17), .int (nI rs.length), .ref (ad 1), .ref (ad 2), .int (nI ps.length), .ref (qa 1), .ref (qa 2), .ref (qa 3), .ref (qa 4), .ref (qa 5), .ref (qa 6), .int (nI E.length), .int (nI S.length), .ref (qa 7), .int (boF ov E.length), .int (fuF ov), .int (nI md), .int (nI ag), .ref (ad 18), .ref (ad 10), .ref (ad 13), .ref (ad 16), zv 2], aZ G (ad 1) 64 fb, aI G (ad 2) 96 fn, aJ G (qa 1) (64 * 2 ^ j) fm, aI G (qa 2) (64 * 2 ^ j) (fs 2), aI G (qa 3) (64 * 2 ^ j) (fs 3), aI G (qa 4) (64 * 2 ^ j) (fs 4), aI G (qa 5) (64 * 2 ^ j) (fs 5), aI G (qa 6) (64 * 2 ^ j) (fs 6), aI G (qa 7) (2 ^ (8 + j)) (fs 7), oW (ad 10) [.ref (ad 11), .ref (ad 12), zv 0], aI G (ad 11) 4 (js 1), aI G (ad 12) 8 (js 2), oW (ad 13) [.ref (ad 14), .ref (ad 15), zv 1], aI G (ad 14) 4 (js 3), aI G (ad 15) 8 (js 4), aI G (ad 16) 4 (js 0), aR G (ad 17) 40 rr, oW (ad 18) [.ref (ad 19), .ref (ad 20), .int (nI ((E.getD k eD).1.2.length))], aI G (ad 19) 4 fh, aI G (ad 20) 8 gh] ++ rp) H locs := hw1
      refine lv_aload_n hx hb d_X_node_25 rfl (lv_at hl 0 rfl) ?_
      refine g_X_55 hx hb hts hown hK hw 0 rfl rfl d_X_node_26 ?_
      refine g_X_180 hx hb hts hown hK hw 18 rfl rfl d_X_node_29 ?_
      refine lv_iload_n hx hb d_X_node_32 rfl (lv_at hl 2 rfl) ?_
      refine r_iald hx hb hK hw 19 rfl (by omega) (by omega) d_X_node_33 ?_
      refine r_eq (show fh i = nI (dg (E.getD k eD).1 i) from hfh i (by omega)) ?_
      exact r_ret hQ (r_iret (va_up (va_up js 5 fh) 6 gh, va_up zv 3 (.int (nI (E.getD k eD).1.2.length))) hx hb hr hlk hw rfl (by omega) (by omega) d_X_node_34)
set_option maxHeartbeats 4000000 in
set_option maxRecDepth 100000 in
theorem c_X_code (zl : Launch) (G : GG) (ad qa : Nat → Nat) (fm : Nat → Int64) (fs js : Nat → Nat → Int32) (zv : Nat → Value) (fb fn : Nat → Int32) (rr : Nat → Option Nat) (rp : va_W) (n room Sx Kx j : Nat) (ps : List (List Nat)) (B : Nat → Bool) (rs : List Rl) (E : List Ent) (S : List Nat) (md ag ov : Nat) (k i : Nat) (hX : XR E j fm fs) (hE : EOK n room E) (hk : k < E.length) (hi : i < (E.getD k eD).1.2.length) : Ctr (S := (Nat → Nat → Int32) × (Nat → Value)) vI zl y_X_code b_X_code 3 (Option.some Jvm.ClassFile.FieldType.int) 2 0 0 G [.ref (ad 0), .int (nI k), .int (nI i)] ([oX (ad 0) [.int (nI n), .int (nI room), .int (nI Sx), .int (nI Kx), .ref (ad 17), .int (nI rs.length), .ref (ad 1), .ref (ad 2), .int (nI ps.length), .ref (qa 1), .ref (qa 2), .ref (qa 3), .ref (qa 4), .ref (qa 5), .ref (qa 6), .int (nI E.length), .int (nI S.length), .ref (qa 7), .int (boF ov E.length), .int (fuF ov), .int (nI md), .int (nI ag), .ref (ad 18), .ref (ad 10), .ref (ad 13), .ref (ad 16), zv 2], aZ G (ad 1) 64 fb, aI G (ad 2) 96 fn, aJ G (qa 1) (64 * 2 ^ j) fm, aI G (qa 2) (64 * 2 ^ j) (fs 2), aI G (qa 3) (64 * 2 ^ j) (fs 3), aI G (qa 4) (64 * 2 ^ j) (fs 4), aI G (qa 5) (64 * 2 ^ j) (fs 5), aI G (qa 6) (64 * 2 ^ j) (fs 6), aI G (qa 7) (2 ^ (8 + j)) (fs 7), oW (ad 10) [.ref (ad 11), .ref (ad 12), zv 0], aI G (ad 11) 4 (js 1), aI G (ad 12) 8 (js 2), oW (ad 13) [.ref (ad 14), .ref (ad 15), zv 1], aI G (ad 14) 4 (js 3), aI G (ad 15) 8 (js 4), aI G (ad 16) 4 (js 0), aR G (ad 17) 40 rr, oW (ad 18) [.ref (ad 19), .ref (ad 20), zv 3], aI G (ad 19) 4 (js 5), aI G (ad 20) 8 (js 6)] ++ rp) (fun r _ => r = nI ((E.getD k eD).1.2.getD i 0)) (fun u => [oX (ad 0) [.int (nI n), .int (nI room), .int (nI Sx), .int (nI Kx), .ref (ad 17), .int (nI rs.length), .ref (ad 1), .ref (ad 2), .int (nI ps.length), .ref (qa 1), .ref (qa 2), .ref (qa 3), .ref (qa 4), .ref (qa 5), .ref (qa 6), .int (nI E.length), .int (nI S.length), .ref (qa 7), .int (boF ov E.length), .int (fuF ov), .int (nI md), .int (nI ag), .ref (ad 18), .ref (ad 10), .ref (ad 13), .ref (ad 16), u.2 2], aZ G (ad 1) 64 fb, aI G (ad 2) 96 fn, aJ G (qa 1) (64 * 2 ^ j) fm, aI G (qa 2) (64 * 2 ^ j) (fs 2), aI G (qa 3) (64 * 2 ^ j) (fs 3), aI G (qa 4) (64 * 2 ^ j) (fs 4), aI G (qa 5) (64 * 2 ^ j) (fs 5), aI G (qa 6) (64 * 2 ^ j) (fs 6), aI G (qa 7) (2 ^ (8 + j)) (fs 7), oW (ad 10) [.ref (ad 11), .ref (ad 12), u.2 0], aI G (ad 11) 4 (u.1 1), aI G (ad 12) 8 (u.1 2), oW (ad 13) [.ref (ad 14), .ref (ad 15), u.2 1], aI G (ad 14) 4 (u.1 3), aI G (ad 15) 8 (u.1 4), aI G (ad 16) 4 (u.1 0), aR G (ad 17) 40 rr, oW (ad 18) [.ref (ad 19), .ref (ad 20), u.2 3], aI G (ad 19) 4 (u.1 5), aI G (ad 20) 8 (u.1 6)] ++ rp) := by
  refine Ctr.start (by decide) (Nat.le_of_ble_eq_true rfl) ?_
  intro zp ze zs zm below meth zc A ls C0 hin hK hA hl hw
  obtain ⟨hx, hb, hr, hlk, hml, hown, hts⟩ := C0
  obtain ⟨R, hRR⟩ : ∃ R : Room, R = rmL 2 0 0 := ⟨_, rfl⟩
  have hRf : R.frames = 2 := by rw [hRR]
  have hRl : R.locals = 64 * 2 := by rw [hRR]
  have hRc : R.cells = 0 := by rw [hRR]
  have hRs : R.slots = 0 := by rw [hRR]
  rw [← hRR]; clear hRR
  generalize hQ : MQ below _ _ zs _ _ A = Q
  generalize hAr : List.toArray _ = args at hts hQ ⊢
  replace hl : lv_has ls 3 [(0, .ref (ad 0)), (1, .int (nI k)), (2, .int (nI i))] := hl
  obtain ⟨H, eH⟩ : ∃ H : Heap, H = zs.heap := ⟨_, rfl⟩
  obtain ⟨locs, eL⟩ : ∃ l0 : List Loc, l0 = [] := ⟨_, rfl⟩
  rw [← eH, ← eL] at hw ⊢; clear eH eL
  have hE8 := hE.2.2
  have hln := hX.2.2.1
  have hpw := pow_mono hX.2.2.2
  have h7 := (hE.1 _ (getD_memE hk)).2.2.2.1
  refine lv_aload_n hx hb d_X_code_0 rfl (lv_at hl 0 rfl) ?_
  refine lv_iload_n hx hb d_X_code_1 rfl (lv_at hl 1 rfl) ?_
  refine xVA_v (rest := []) (As := [.int (nI k)]) hx hb hml hown hts hK hA hw k_X_246 (c_X_isWhole zl G ad qa fm fs js zv fb fn rr rp n room Sx Kx j ps B rs E S md ag ov k hX hE hk) 0 rfl rfl rfl rfl hl.1 (Nat.le_of_ble_eq_true rfl) ⟨(by omega), (by omega)⟩ ⟨(by omega), (by omega)⟩ d_X_code_2 (fun _ u9 H locs hp hw1 => ?_)
  obtain ⟨fh, gh⟩ := u9
  obtain ⟨hfh, hgh⟩ := hp
  dsimp only at hfh hgh
  refine W.cs (cells' := 0) (slots' := 0) rfl rfl ?_
  replace hw : WW G A zs ([oX (ad 0) [.int (nI n), .int (nI room), .int (nI Sx), .int (nI Kx), .ref (ad 17), .int (nI rs.length), .ref (ad 1), .ref (ad 2), .int (nI ps.length), .ref (qa 1), .ref (qa 2), .ref (qa 3), .ref (qa 4), .ref (qa 5), .ref (qa 6), .int (nI E.length), .int (nI S.length), .ref (qa 7), .int (boF ov E.length), .int (fuF ov), .int (nI md), .int (nI ag), .ref (ad 18), .ref (ad 10), .ref (ad 13), .ref (ad 16), zv 2], aZ G (ad 1) 64 fb, aI G (ad 2) 96 fn, aJ G (qa 1) (64 * 2 ^ j) fm, aI G (qa 2) (64 * 2 ^ j) (fs 2), aI G (qa 3) (64 * 2 ^ j) (fs 3), aI G (qa 4) (64 * 2 ^ j) (fs 4), aI G (qa 5) (64 * 2 ^ j) (fs 5), aI G (qa 6) (64 * 2 ^ j) (fs 6), aI G (qa 7) (2 ^ (8 + j)) (fs 7), oW (ad 10) [.ref (ad 11), .ref (ad 12), zv 0], aI G (ad 11) 4 (js 1), aI G (ad 12) 8 (js 2), oW (ad 13) [.ref (ad 14), .ref (ad 15), zv 1], aI G (ad 14) 4 (js 3), aI G (ad 15) 8 (js 4), aI G (ad 16) 4 (js 0), aR G (ad 17) 40 rr, oW (ad 18) [.ref (ad 19), .ref (ad 20), .int (nI ((E.getD k eD).1.2.length))], aI G (ad 19) 4 fh, aI G (ad 20) 8 gh] ++ rp) H locs := hw1
  refine lv_iload_n hx hb d_X_code_5 rfl (lv_at hl 2 rfl) ?_
  refine lv_if_lt (tgt := 24) hx hb d_X_code_6 (by decide) (fun c_6 => ?_) (fun c_6 => ?_)
  · skip
    exact absurd c_6 (nI_pos (by omega))
  · skip
    refine lv_iload_n hx hb d_X_code_9 rfl (lv_at hl 2 rfl) ?_
    refine lv_aload_n hx hb d_X_code_10 rfl (lv_at hl 0 rfl) ?_
    refine g_X_55 hx hb hts hown hK hw 0 rfl rfl d_X_code_11 ?_
    refine g_X_219 hx hb hts hown hK hw 18 rfl rfl d_X_code_14 ?_
    refine r_icmp_ge (tgt := 24) hx hb (by omega) (by omega) d_X_code_17 (by decide) (fun c_17 => ?_) (fun c_17 => ?_)
    · skip
      exfalso; omega
    · skip
      refine lv_iconst (v := nI 1) hx hb d_X_code_20 rfl ?_
      refine lv_goto (tgt := 25) hx hb d_X_code_21 (by decide) ?_
      refine xS_v (rest := []) (As := [.int (nI 1)]) hx hb hml hown hts hK hA hw k_X_243 (c_X_there zl G) ([]) rfl rfl (fun _ => Nat.le_of_ble_eq_true rfl) rfl rfl hl.1 (Nat.le_of_ble_eq_true rfl) ⟨(by omega), (by omega)⟩ ⟨(by omega), (by omega)⟩ d_X_code_25 (fun _ u H locs hp hw1 => ?_)
      refine W.cs (cells' := 0) (slots' := 0) rfl rfl ?_
      replace hw : WW G A zs ([oX (ad 0) [.int (nI n), .int (nI room), .int (nI Sx), .int (nI Kx), .ref (ad 17), .int (nI rs.length), .ref (ad 1), .ref (ad 2), .int (nI ps.length), .ref (qa 1), .ref (qa 2), .ref (qa 3), .ref (qa 4), .ref (qa 5), .ref (qa 6), .int (nI E.length), .int (nI S.length), .ref (qa 7), .int (boF ov E.length), .int (fuF ov), .int (nI md), .int (nI ag), .ref (ad 18), .ref (ad 10), .ref (ad 13), .ref (ad 16), zv 2], aZ G (ad 1) 64 fb, aI G (ad 2) 96 fn, aJ G (qa 1) (64 * 2 ^ j) fm, aI G (qa 2) (64 * 2 ^ j) (fs 2), aI G (qa 3) (64 * 2 ^ j) (fs 3), aI G (qa 4) (64 * 2 ^ j) (fs 4), aI G (qa 5) (64 * 2 ^ j) (fs 5), aI G (qa 6) (64 * 2 ^ j) (fs 6), aI G (qa 7) (2 ^ (8 + j)) (fs 7), oW (ad 10) [.ref (ad 11), .ref (ad 12), zv 0], aI G (ad 11) 4 (js 1), aI G (ad 12) 8 (js 2), oW (ad 13) [.ref (ad 14), .ref (ad 15), zv 1], aI G (ad 14) 4 (js 3), aI G (ad 15) 8 (js 4), aI G (ad 16) 4 (js 0), aR G (ad 17) 40 rr, oW (ad 18) [.ref (ad 19), .ref (ad 20), .int (nI ((E.getD k eD).1.2.length))], aI G (ad 19) 4 fh, aI G (ad 20) 8 gh] ++ rp) H locs := hw1
      refine lv_aload_n hx hb d_X_code_28 rfl (lv_at hl 0 rfl) ?_
      refine g_X_55 hx hb hts hown hK hw 0 rfl rfl d_X_code_29 ?_
      refine g_X_220 hx hb hts hown hK hw 18 rfl rfl d_X_code_32 ?_
      refine lv_iload_n hx hb d_X_code_35 rfl (lv_at hl 2 rfl) ?_
      refine r_iald hx hb hK hw 20 rfl (by omega) (by omega) d_X_code_36 ?_
      refine r_eq (show gh i = nI ((E.getD k eD).1.2.getD i 0) from by simpa using hgh i hi) ?_
      exact r_ret hQ (r_iret (va_up (va_up js 5 fh) 6 gh, va_up zv 3 (.int (nI (E.getD k eD).1.2.length))) hx hb hr hlk hw rfl (by omega) (by omega) d_X_code_37)
set_option maxHeartbeats 4000000 in
set_option maxRecDepth 100000 in
theorem c_X_whole (zl : Launch) (G : GG) (ad qa : Nat → Nat) (fm : Nat → Int64) (fs js : Nat → Nat → Int32) (zv : Nat → Value) (fb fn : Nat → Int32) (rr : Nat → Option Nat) (rp : va_W) (n room Sx Kx j : Nat) (ps : List (List Nat)) (B : Nat → Bool) (rs : List Rl) (E : List Ent) (S : List Nat) (md ag ov : Nat) (k wt : Nat) (hX : XR E j fm fs) (hE : EOK n room E) (hk : k < E.length) (hwt : wt < 6) (hXS : XS S (fs 5)) (hSl : S.length ≤ E.length) : Ctr (S := (Nat → Nat → Int32) × (Nat → Value)) vI zl y_X_whole b_X_whole 3 (Option.some Jvm.ClassFile.FieldType.int) 2 0 0 G [.ref (ad 0), .int (nI k), .int (nI wt)] ([oX (ad 0) [.int (nI n), .int (nI room), .int (nI Sx), .int (nI Kx), .ref (ad 17), .int (nI rs.length), .ref (ad 1), .ref (ad 2), .int (nI ps.length), .ref (qa 1), .ref (qa 2), .ref (qa 3), .ref (qa 4), .ref (qa 5), .ref (qa 6), .int (nI E.length), .int (nI S.length), .ref (qa 7), .int (boF ov E.length), .int (fuF ov), .int (nI md), .int (nI ag), .ref (ad 18), .ref (ad 10), .ref (ad 13), .ref (ad 16), zv 2], aZ G (ad 1) 64 fb, aI G (ad 2) 96 fn, aJ G (qa 1) (64 * 2 ^ j) fm, aI G (qa 2) (64 * 2 ^ j) (fs 2), aI G (qa 3) (64 * 2 ^ j) (fs 3), aI G (qa 4) (64 * 2 ^ j) (fs 4), aI G (qa 5) (64 * 2 ^ j) (fs 5), aI G (qa 6) (64 * 2 ^ j) (fs 6), aI G (qa 7) (2 ^ (8 + j)) (fs 7), oW (ad 10) [.ref (ad 11), .ref (ad 12), zv 0], aI G (ad 11) 4 (js 1), aI G (ad 12) 8 (js 2), oW (ad 13) [.ref (ad 14), .ref (ad 15), zv 1], aI G (ad 14) 4 (js 3), aI G (ad 15) 8 (js 4), aI G (ad 16) 4 (js 0), aR G (ad 17) 40 rr, oW (ad 18) [.ref (ad 19), .ref (ad 20), zv 3], aI G (ad 19) 4 (js 5), aI G (ad 20) 8 (js 6)] ++ rp) (fun r _ => r = whA E S k wt) (fun u => [oX (ad 0) [.int (nI n), .int (nI room), .int (nI Sx), .int (nI Kx), .ref (ad 17), .int (nI rs.length), .ref (ad 1), .ref (ad 2), .int (nI ps.length), .ref (qa 1), .ref (qa 2), .ref (qa 3), .ref (qa 4), .ref (qa 5), .ref (qa 6), .int (nI E.length), .int (nI S.length), .ref (qa 7), .int (boF ov E.length), .int (fuF ov), .int (nI md), .int (nI ag), .ref (ad 18), .ref (ad 10), .ref (ad 13), .ref (ad 16), u.2 2], aZ G (ad 1) 64 fb, aI G (ad 2) 96 fn, aJ G (qa 1) (64 * 2 ^ j) fm, aI G (qa 2) (64 * 2 ^ j) (fs 2), aI G (qa 3) (64 * 2 ^ j) (fs 3), aI G (qa 4) (64 * 2 ^ j) (fs 4), aI G (qa 5) (64 * 2 ^ j) (fs 5), aI G (qa 6) (64 * 2 ^ j) (fs 6), aI G (qa 7) (2 ^ (8 + j)) (fs 7), oW (ad 10) [.ref (ad 11), .ref (ad 12), u.2 0], aI G (ad 11) 4 (u.1 1), aI G (ad 12) 8 (u.1 2), oW (ad 13) [.ref (ad 14), .ref (ad 15), u.2 1], aI G (ad 14) 4 (u.1 3), aI G (ad 15) 8 (u.1 4), aI G (ad 16) 4 (u.1 0), aR G (ad 17) 40 rr, oW (ad 18) [.ref (ad 19), .ref (ad 20), u.2 3], aI G (ad 19) 4 (u.1 5), aI G (ad 20) 8 (u.1 6)] ++ rp) := by
  refine Ctr.start (by decide) (Nat.le_of_ble_eq_true rfl) ?_
  intro zp ze zs zm below meth zc A ls C0 hin hK hA hl hw
  obtain ⟨hx, hb, hr, hlk, hml, hown, hts⟩ := C0
  obtain ⟨R, hRR⟩ : ∃ R : Room, R = rmL 2 0 0 := ⟨_, rfl⟩
  have hRf : R.frames = 2 := by rw [hRR]
  have hRl : R.locals = 64 * 2 := by rw [hRR]
  have hRc : R.cells = 0 := by rw [hRR]
  have hRs : R.slots = 0 := by rw [hRR]
  rw [← hRR]; clear hRR
  generalize hQ : MQ below _ _ zs _ _ A = Q
  generalize hAr : List.toArray _ = args at hts hQ ⊢
  replace hl : lv_has ls 3 [(0, .ref (ad 0)), (1, .int (nI k)), (2, .int (nI wt))] := hl
  obtain ⟨H, eH⟩ : ∃ H : Heap, H = zs.heap := ⟨_, rfl⟩
  obtain ⟨locs, eL⟩ : ∃ l0 : List Loc, l0 = [] := ⟨_, rfl⟩
  rw [← eH, ← eL] at hw ⊢; clear eH eL
  have hE8 := hE.2.2
  have hln := hX.2.2.1
  have hpw := pow_mono hX.2.2.2
  refine lv_aload_n hx hb d_X_whole_0 rfl (lv_at hl 0 rfl) ?_
  refine lv_iload_n hx hb d_X_whole_1 rfl (lv_at hl 1 rfl) ?_
  refine xVA_v (rest := []) (As := [.int (nI k)]) hx hb hml hown hts hK hA hw k_X_246 (c_X_isWhole zl G ad qa fm fs js zv fb fn rr rp n room Sx Kx j ps B rs E S md ag ov k hX hE hk) 0 rfl rfl rfl rfl hl.1 (Nat.le_of_ble_eq_true rfl) ⟨(by omega), (by omega)⟩ ⟨(by omega), (by omega)⟩ d_X_whole_2 (fun _ u9 H locs hp hw1 => ?_)
  obtain ⟨fh, gh⟩ := u9
  obtain ⟨hfh, hgh⟩ := hp
  dsimp only at hfh hgh
  refine W.cs (cells' := 0) (slots' := 0) rfl rfl ?_
  replace hw : WW G A zs ([oX (ad 0) [.int (nI n), .int (nI room), .int (nI Sx), .int (nI Kx), .ref (ad 17), .int (nI rs.length), .ref (ad 1), .ref (ad 2), .int (nI ps.length), .ref (qa 1), .ref (qa 2), .ref (qa 3), .ref (qa 4), .ref (qa 5), .ref (qa 6), .int (nI E.length), .int (nI S.length), .ref (qa 7), .int (boF ov E.length), .int (fuF ov), .int (nI md), .int (nI ag), .ref (ad 18), .ref (ad 10), .ref (ad 13), .ref (ad 16), zv 2], aZ G (ad 1) 64 fb, aI G (ad 2) 96 fn, aJ G (qa 1) (64 * 2 ^ j) fm, aI G (qa 2) (64 * 2 ^ j) (fs 2), aI G (qa 3) (64 * 2 ^ j) (fs 3), aI G (qa 4) (64 * 2 ^ j) (fs 4), aI G (qa 5) (64 * 2 ^ j) (fs 5), aI G (qa 6) (64 * 2 ^ j) (fs 6), aI G (qa 7) (2 ^ (8 + j)) (fs 7), oW (ad 10) [.ref (ad 11), .ref (ad 12), zv 0], aI G (ad 11) 4 (js 1), aI G (ad 12) 8 (js 2), oW (ad 13) [.ref (ad 14), .ref (ad 15), zv 1], aI G (ad 14) 4 (js 3), aI G (ad 15) 8 (js 4), aI G (ad 16) 4 (js 0), aR G (ad 17) 40 rr, oW (ad 18) [.ref (ad 19), .ref (ad 20), .int (nI ((E.getD k eD).1.2.length))], aI G (ad 19) 4 fh, aI G (ad 20) 8 gh] ++ rp) H locs := hw1
  refine lv_iload_n hx hb d_X_whole_5 rfl (lv_at hl 2 rfl) ?_
  refine lv_if_lt (tgt := 19) hx hb d_X_whole_6 (by decide) (fun c_6 => ?_) (fun c_6 => ?_)
  · skip
    exact absurd c_6 (nI_pos (by omega))
  · skip
    refine lv_iload_n hx hb d_X_whole_9 rfl (lv_at hl 2 rfl) ?_
    refine lv_bipush (v := nI 6) hx hb d_X_whole_10 (by decide) ?_
    refine r_icmp_ge (tgt := 19) hx hb (by omega) (by omega) d_X_whole_12 (by decide) (fun c_12 => ?_) (fun c_12 => ?_)
    · skip
      exfalso; omega
    · skip
      refine lv_iconst (v := nI 1) hx hb d_X_whole_15 rfl ?_
      refine lv_goto (tgt := 20) hx hb d_X_whole_16 (by decide) ?_
      refine xS_v (rest := []) (As := [.int (nI 1)]) hx hb hml hown hts hK hA hw k_X_243 (c_X_there zl G) ([]) rfl rfl (fun _ => Nat.le_of_ble_eq_true rfl) rfl rfl hl.1 (Nat.le_of_ble_eq_true rfl) ⟨(by omega), (by omega)⟩ ⟨(by omega), (by omega)⟩ d_X_whole_20 (fun _ u H locs hp hw1 => ?_)
      refine W.cs (cells' := 0) (slots' := 0) rfl rfl ?_
      replace hw : WW G A zs ([oX (ad 0) [.int (nI n), .int (nI room), .int (nI Sx), .int (nI Kx), .ref (ad 17), .int (nI rs.length), .ref (ad 1), .ref (ad 2), .int (nI ps.length), .ref (qa 1), .ref (qa 2), .ref (qa 3), .ref (qa 4), .ref (qa 5), .ref (qa 6), .int (nI E.length), .int (nI S.length), .ref (qa 7), .int (boF ov E.length), .int (fuF ov), .int (nI md), .int (nI ag), .ref (ad 18), .ref (ad 10), .ref (ad 13), .ref (ad 16), zv 2], aZ G (ad 1) 64 fb, aI G (ad 2) 96 fn, aJ G (qa 1) (64 * 2 ^ j) fm, aI G (qa 2) (64 * 2 ^ j) (fs 2), aI G (qa 3) (64 * 2 ^ j) (fs 3), aI G (qa 4) (64 * 2 ^ j) (fs 4), aI G (qa 5) (64 * 2 ^ j) (fs 5), aI G (qa 6) (64 * 2 ^ j) (fs 6), aI G (qa 7) (2 ^ (8 + j)) (fs 7), oW (ad 10) [.ref (ad 11), .ref (ad 12), zv 0], aI G (ad 11) 4 (js 1), aI G (ad 12) 8 (js 2), oW (ad 13) [.ref (ad 14), .ref (ad 15), zv 1], aI G (ad 14) 4 (js 3), aI G (ad 15) 8 (js 4), aI G (ad 16) 4 (js 0), aR G (ad 17) 40 rr, oW (ad 18) [.ref (ad 19), .ref (ad 20), .int (nI ((E.getD k eD).1.2.length))], aI G (ad 19) 4 fh, aI G (ad 20) 8 gh] ++ rp) H locs := hw1
      refine lv_iload_n hx hb d_X_whole_23 rfl (lv_at hl 2 rfl) ?_
      by_cases sw_24_0 : nI wt = nI 0
      · skip
        rw [sw_24_0]
        refine lv_tableIn (tgt := 60) hx hb d_X_whole_24 (by decide) (by decide) rfl (by decide) ?_
        refine lv_aload_n hx hb d_X_whole_60 rfl (lv_at hl 0 rfl) ?_
        refine g_X_55 hx hb hts hown hK hw 0 rfl rfl d_X_whole_61 ?_
        refine g_X_219 hx hb hts hown hK hw 18 rfl rfl d_X_whole_64 ?_
        exact r_ret hQ (r_iret (va_up (va_up js 5 fh) 6 gh, va_up zv 3 (.int (nI (E.getD k eD).1.2.length))) hx hb hr hlk hw (by have hj9 := (nI_eq (by omega) (by omega)).mp sw_24_0; unfold whA; subst hj9; rfl) (by omega) (by omega) d_X_whole_67)
      by_cases sw_24_1 : nI wt = nI 1
      · skip
        rw [sw_24_1]
        refine lv_tableIn (tgt := 68) hx hb d_X_whole_24 (by decide) (by decide) rfl (by decide) ?_
        refine lv_aload_n hx hb d_X_whole_68 rfl (lv_at hl 0 rfl) ?_
        refine g_X_37 hx hb hts hown hK hw 0 rfl rfl d_X_whole_69 ?_
        refine lv_iload_n hx hb d_X_whole_72 rfl (lv_at hl 1 rfl) ?_
        refine r_iald hx hb hK hw 6 rfl (by omega) (by omega) d_X_whole_73 ?_
        refine r_eq (show (fs 4) k = nI ((E.getD k eD).2.2.2.1) from (hX.1 k hk).2.2.2.1) ?_
        exact r_ret hQ (r_iret (va_up (va_up js 5 fh) 6 gh, va_up zv 3 (.int (nI (E.getD k eD).1.2.length))) hx hb hr hlk hw (by have hj9 := (nI_eq (by omega) (by omega)).mp sw_24_1; unfold whA; subst hj9; rfl) (by omega) (by omega) d_X_whole_74)
      by_cases sw_24_2 : nI wt = nI 2
      · skip
        rw [sw_24_2]
        refine lv_tableIn (tgt := 75) hx hb d_X_whole_24 (by decide) (by decide) rfl (by decide) ?_
        refine lv_aload_n hx hb d_X_whole_75 rfl (lv_at hl 0 rfl) ?_
        refine g_X_31 hx hb hts hown hK hw 0 rfl rfl d_X_whole_76 ?_
        refine lv_iload_n hx hb d_X_whole_79 rfl (lv_at hl 1 rfl) ?_
        refine r_iald hx hb hK hw 4 rfl (by omega) (by omega) d_X_whole_80 ?_
        refine r_eq (show (fs 2) k = (E.getD k eD).2.1 from (hX.1 k hk).2.1) ?_
        exact r_ret hQ (r_iret (va_up (va_up js 5 fh) 6 gh, va_up zv 3 (.int (nI (E.getD k eD).1.2.length))) hx hb hr hlk hw (by have hj9 := (nI_eq (by omega) (by omega)).mp sw_24_2; unfold whA; subst hj9; rfl) (by omega) (by omega) d_X_whole_81)
      by_cases sw_24_3 : nI wt = nI 3
      · skip
        rw [sw_24_3]
        refine lv_tableIn (tgt := 82) hx hb d_X_whole_24 (by decide) (by decide) rfl (by decide) ?_
        refine lv_aload_n hx hb d_X_whole_82 rfl (lv_at hl 0 rfl) ?_
        refine g_X_34 hx hb hts hown hK hw 0 rfl rfl d_X_whole_83 ?_
        refine lv_iload_n hx hb d_X_whole_86 rfl (lv_at hl 1 rfl) ?_
        refine r_iald hx hb hK hw 5 rfl (by omega) (by omega) d_X_whole_87 ?_
        refine r_eq (show (fs 3) k = (E.getD k eD).2.2.1 from (hX.1 k hk).2.2.1) ?_
        exact r_ret hQ (r_iret (va_up (va_up js 5 fh) 6 gh, va_up zv 3 (.int (nI (E.getD k eD).1.2.length))) hx hb hr hlk hw (by have hj9 := (nI_eq (by omega) (by omega)).mp sw_24_3; unfold whA; subst hj9; rfl) (by omega) (by omega) d_X_whole_88)
      by_cases sw_24_4 : nI wt = nI 4
      · skip
        rw [sw_24_4]
        refine lv_tableIn (tgt := 89) hx hb d_X_whole_24 (by decide) (by decide) rfl (by decide) ?_
        refine lv_iload_n hx hb d_X_whole_89 rfl (lv_at hl 1 rfl) ?_
        refine lv_aload_n hx hb d_X_whole_90 rfl (lv_at hl 0 rfl) ?_
        refine g_X_102 hx hb hts hown hK hw 0 rfl rfl d_X_whole_91 ?_
        refine r_icmp_ge (tgt := 106) hx hb (by omega) (by omega) d_X_whole_94 (by decide) (fun c_94 => ?_) (fun c_94 => ?_)
        · skip
          refine lv_iconst (v := -1) hx hb d_X_whole_106 (by decide) ?_
          exact r_ret hQ (r_iret (va_up (va_up js 5 fh) 6 gh, va_up zv 3 (.int (nI (E.getD k eD).1.2.length))) hx hb hr hlk hw (by have hj9 := (nI_eq (by omega) (by omega)).mp sw_24_4; unfold whA; subst hj9; show _ = if k < S.length then _ else _; rw [if_neg (by omega)]) (by omega) (by omega) d_X_whole_107)
        · skip
          refine lv_aload_n hx hb d_X_whole_97 rfl (lv_at hl 0 rfl) ?_
          refine g_X_40 hx hb hts hown hK hw 0 rfl rfl d_X_whole_98 ?_
          refine lv_iload_n hx hb d_X_whole_101 rfl (lv_at hl 1 rfl) ?_
          refine r_iald hx hb hK hw 7 rfl (by omega) (by omega) d_X_whole_102 ?_
          refine r_eq (show (fs 5) k = nI (S.getD k 0) from hXS k c_94) ?_
          refine lv_goto (tgt := 107) hx hb d_X_whole_103 (by decide) ?_
          exact r_ret hQ (r_iret (va_up (va_up js 5 fh) 6 gh, va_up zv 3 (.int (nI (E.getD k eD).1.2.length))) hx hb hr hlk hw (by have hj9 := (nI_eq (by omega) (by omega)).mp sw_24_4; unfold whA; subst hj9; show _ = if k < S.length then _ else _; rw [if_pos c_94]) (by omega) (by omega) d_X_whole_107)
      refine lv_tableOut (tgt := 108) hx hb d_X_whole_24 (sw_out5 (fun j hj => by match j, hj with | 0, _ => exact sw_24_0 | 1, _ => exact sw_24_1 | 2, _ => exact sw_24_2 | 3, _ => exact sw_24_3 | 4, _ => exact sw_24_4)) (by decide) ?_
      refine lv_aload_n hx hb d_X_whole_108 rfl (lv_at hl 0 rfl) ?_
      refine g_X_43 hx hb hts hown hK hw 0 rfl rfl d_X_whole_109 ?_
      refine lv_iload_n hx hb d_X_whole_112 rfl (lv_at hl 1 rfl) ?_
      refine r_iald hx hb hK hw 8 rfl (by omega) (by omega) d_X_whole_113 ?_
      refine r_eq (show (fs 6) k = nI ((E.getD k eD).2.2.2.2) from (hX.1 k hk).2.2.2.2) ?_
      exact r_ret hQ (r_iret (va_up (va_up js 5 fh) 6 gh, va_up zv 3 (.int (nI (E.getD k eD).1.2.length))) hx hb hr hlk hw (wh_5 sw_24_0 sw_24_1 sw_24_2 sw_24_3 sw_24_4 hwt) (by omega) (by omega) d_X_whole_114)
set_option maxHeartbeats 4000000 in
set_option maxRecDepth 100000 in
theorem c_X_way (zl : Launch) (G : GG) (ad qa : Nat → Nat) (fm : Nat → Int64) (fs js : Nat → Nat → Int32) (zv : Nat → Value) (fb fn : Nat → Int32) (rr : Nat → Option Nat) (rp : va_W) (n room Sx Kx j : Nat) (ps : List (List Nat)) (B : Nat → Bool) (rs : List Rl) (E : List Ent) (S : List Nat) (md ag ov : Nat) (hX : XR E j fm fs) (hE : EOK n room E) (hE1 : ov = 1 → 0 < E.length) : Ctr (S := Unit) vI zl y_X_way b_X_way 1 (Option.some Jvm.ClassFile.FieldType.int) 0 0 0 G [.ref (ad 0)] ([oX (ad 0) [.int (nI n), .int (nI room), .int (nI Sx), .int (nI Kx), .ref (ad 17), .int (nI rs.length), .ref (ad 1), .ref (ad 2), .int (nI ps.length), .ref (qa 1), .ref (qa 2), .ref (qa 3), .ref (qa 4), .ref (qa 5), .ref (qa 6), .int (nI E.length), .int (nI S.length), .ref (qa 7), .int (boF ov E.length), .int (fuF ov), .int (nI md), .int (nI ag), .ref (ad 18), .ref (ad 10), .ref (ad 13), .ref (ad 16), zv 2], aZ G (ad 1) 64 fb, aI G (ad 2) 96 fn, aJ G (qa 1) (64 * 2 ^ j) fm, aI G (qa 2) (64 * 2 ^ j) (fs 2), aI G (qa 3) (64 * 2 ^ j) (fs 3), aI G (qa 4) (64 * 2 ^ j) (fs 4), aI G (qa 5) (64 * 2 ^ j) (fs 5), aI G (qa 6) (64 * 2 ^ j) (fs 6), aI G (qa 7) (2 ^ (8 + j)) (fs 7), oW (ad 10) [.ref (ad 11), .ref (ad 12), zv 0], aI G (ad 11) 4 (js 1), aI G (ad 12) 8 (js 2), oW (ad 13) [.ref (ad 14), .ref (ad 15), zv 1], aI G (ad 14) 4 (js 3), aI G (ad 15) 8 (js 4), aI G (ad 16) 4 (js 0), aR G (ad 17) 40 rr, oW (ad 18) [.ref (ad 19), .ref (ad 20), zv 3], aI G (ad 19) 4 (js 5), aI G (ad 20) 8 (js 6)] ++ rp) (fun r _ => r = wayR E ov) (fun _ => [oX (ad 0) [.int (nI n), .int (nI room), .int (nI Sx), .int (nI Kx), .ref (ad 17), .int (nI rs.length), .ref (ad 1), .ref (ad 2), .int (nI ps.length), .ref (qa 1), .ref (qa 2), .ref (qa 3), .ref (qa 4), .ref (qa 5), .ref (qa 6), .int (nI E.length), .int (nI S.length), .ref (qa 7), .int (boF ov E.length), .int (fuF ov), .int (nI md), .int (nI ag), .ref (ad 18), .ref (ad 10), .ref (ad 13), .ref (ad 16), zv 2], aZ G (ad 1) 64 fb, aI G (ad 2) 96 fn, aJ G (qa 1) (64 * 2 ^ j) fm, aI G (qa 2) (64 * 2 ^ j) (fs 2), aI G (qa 3) (64 * 2 ^ j) (fs 3), aI G (qa 4) (64 * 2 ^ j) (fs 4), aI G (qa 5) (64 * 2 ^ j) (fs 5), aI G (qa 6) (64 * 2 ^ j) (fs 6), aI G (qa 7) (2 ^ (8 + j)) (fs 7), oW (ad 10) [.ref (ad 11), .ref (ad 12), zv 0], aI G (ad 11) 4 (js 1), aI G (ad 12) 8 (js 2), oW (ad 13) [.ref (ad 14), .ref (ad 15), zv 1], aI G (ad 14) 4 (js 3), aI G (ad 15) 8 (js 4), aI G (ad 16) 4 (js 0), aR G (ad 17) 40 rr, oW (ad 18) [.ref (ad 19), .ref (ad 20), zv 3], aI G (ad 19) 4 (js 5), aI G (ad 20) 8 (js 6)] ++ rp) := by
  refine Ctr.start (by decide) (Nat.le_of_ble_eq_true rfl) ?_
  intro zp ze zs zm below meth zc A ls C0 hin hK hA hl hw
  obtain ⟨hx, hb, hr, hlk, hml, hown, hts⟩ := C0
  obtain ⟨R, hRR⟩ : ∃ R : Room, R = rmL 0 0 0 := ⟨_, rfl⟩
  have hRf : R.frames = 0 := by rw [hRR]
  have hRl : R.locals = 64 * 0 := by rw [hRR]
  have hRc : R.cells = 0 := by rw [hRR]
  have hRs : R.slots = 0 := by rw [hRR]
  rw [← hRR]; clear hRR
  generalize hQ : MQ below _ _ zs _ _ A = Q
  generalize hAr : List.toArray _ = args at hts hQ ⊢
  replace hl : lv_has ls 1 [(0, .ref (ad 0))] := hl
  obtain ⟨H, eH⟩ : ∃ H : Heap, H = zs.heap := ⟨_, rfl⟩
  obtain ⟨locs, eL⟩ : ∃ l0 : List Loc, l0 = [] := ⟨_, rfl⟩
  rw [← eH, ← eL] at hw ⊢; clear eH eL
  have hE8 := hE.2.2
  have hln := hX.2.2.1
  have hpw := pow_mono hX.2.2.2
  refine lv_aload_n hx hb d_X_way_0 rfl (lv_at hl 0 rfl) ?_
  refine g_X_49 hx hb hts hown hK hw 0 rfl rfl d_X_way_1 ?_
  refine lv_iconst (v := -1) hx hb d_X_way_4 (by decide) ?_
  refine lv_icmp_ne (tgt := 12) hx hb d_X_way_5 (by decide) (fun c_5 => ?_) (fun c_5 => ?_)
  · skip
    obtain ⟨ho1, hbo⟩ := boF_1 c_5
    have hpos := hE1 ho1
    refine lv_aload_n hx hb d_X_way_12 rfl (lv_at hl 0 rfl) ?_
    refine g_X_37 hx hb hts hown hK hw 0 rfl rfl d_X_way_13 ?_
    refine lv_aload_n hx hb d_X_way_16 rfl (lv_at hl 0 rfl) ?_
    refine g_X_49 hx hb hts hown hK hw 0 rfl rfl d_X_way_17 ?_
    refine r_eq (show boF ov E.length = nI (E.length - 1) from hbo) ?_
    refine r_iald hx hb hK hw 6 rfl (by omega) (by omega) d_X_way_20 ?_
    refine r_eq (show (fs 4) (E.length - 1) = nI (lvE E (E.length - 1)) from (hX.1 (E.length - 1) (by omega)).2.2.2.1) ?_
    exact r_ret hQ (r_iret () hx hb hr hlk hw (by unfold wayR; rw [if_pos ho1]) (by omega) (by omega) d_X_way_21)
  · skip
    refine lv_iconst (v := -1) hx hb d_X_way_8 (by decide) ?_
    refine lv_goto (tgt := 21) hx hb d_X_way_9 (by decide) ?_
    exact r_ret hQ (r_iret () hx hb hr hlk hw (by unfold wayR; rw [if_neg (boF_n c_5 (by omega))]) (by omega) (by omega) d_X_way_21)
set_option maxHeartbeats 4000000 in
set_option maxRecDepth 100000 in
theorem c_X_wayAt (zl : Launch) (G : GG) (ad qa : Nat → Nat) (fm : Nat → Int64) (fs js : Nat → Nat → Int32) (zv : Nat → Value) (fb fn : Nat → Int32) (rr : Nat → Option Nat) (rp : va_W) (n room Sx Kx j : Nat) (ps : List (List Nat)) (B : Nat → Bool) (rs : List Rl) (E : List Ent) (S : List Nat) (md ag ov : Nat) (i : Nat) (hX : XR E j fm fs) (hE : EOK n room E) (hE1 : ov = 1 → 0 < E.length) (ho1 : ov = 1) (hi : i ≤ lvE E (E.length - 1)) (hLI : LIa E) : Ctr (S := Unit) vI zl y_X_wayAt b_X_wayAt 3 (Option.some Jvm.ClassFile.FieldType.int) 1 0 0 G [.ref (ad 0), .int (nI i)] ([oX (ad 0) [.int (nI n), .int (nI room), .int (nI Sx), .int (nI Kx), .ref (ad 17), .int (nI rs.length), .ref (ad 1), .ref (ad 2), .int (nI ps.length), .ref (qa 1), .ref (qa 2), .ref (qa 3), .ref (qa 4), .ref (qa 5), .ref (qa 6), .int (nI E.length), .int (nI S.length), .ref (qa 7), .int (boF ov E.length), .int (fuF ov), .int (nI md), .int (nI ag), .ref (ad 18), .ref (ad 10), .ref (ad 13), .ref (ad 16), zv 2], aZ G (ad 1) 64 fb, aI G (ad 2) 96 fn, aJ G (qa 1) (64 * 2 ^ j) fm, aI G (qa 2) (64 * 2 ^ j) (fs 2), aI G (qa 3) (64 * 2 ^ j) (fs 3), aI G (qa 4) (64 * 2 ^ j) (fs 4), aI G (qa 5) (64 * 2 ^ j) (fs 5), aI G (qa 6) (64 * 2 ^ j) (fs 6), aI G (qa 7) (2 ^ (8 + j)) (fs 7), oW (ad 10) [.ref (ad 11), .ref (ad 12), zv 0], aI G (ad 11) 4 (js 1), aI G (ad 12) 8 (js 2), oW (ad 13) [.ref (ad 14), .ref (ad 15), zv 1], aI G (ad 14) 4 (js 3), aI G (ad 15) 8 (js 4), aI G (ad 16) 4 (js 0), aR G (ad 17) 40 rr, oW (ad 18) [.ref (ad 19), .ref (ad 20), zv 3], aI G (ad 19) 4 (js 5), aI G (ad 20) 8 (js 6)] ++ rp) (fun r _ => r = nI (wayK E i (E.length + 1) (E.length - 1))) (fun _ => [oX (ad 0) [.int (nI n), .int (nI room), .int (nI Sx), .int (nI Kx), .ref (ad 17), .int (nI rs.length), .ref (ad 1), .ref (ad 2), .int (nI ps.length), .ref (qa 1), .ref (qa 2), .ref (qa 3), .ref (qa 4), .ref (qa 5), .ref (qa 6), .int (nI E.length), .int (nI S.length), .ref (qa 7), .int (boF ov E.length), .int (fuF ov), .int (nI md), .int (nI ag), .ref (ad 18), .ref (ad 10), .ref (ad 13), .ref (ad 16), zv 2], aZ G (ad 1) 64 fb, aI G (ad 2) 96 fn, aJ G (qa 1) (64 * 2 ^ j) fm, aI G (qa 2) (64 * 2 ^ j) (fs 2), aI G (qa 3) (64 * 2 ^ j) (fs 3), aI G (qa 4) (64 * 2 ^ j) (fs 4), aI G (qa 5) (64 * 2 ^ j) (fs 5), aI G (qa 6) (64 * 2 ^ j) (fs 6), aI G (qa 7) (2 ^ (8 + j)) (fs 7), oW (ad 10) [.ref (ad 11), .ref (ad 12), zv 0], aI G (ad 11) 4 (js 1), aI G (ad 12) 8 (js 2), oW (ad 13) [.ref (ad 14), .ref (ad 15), zv 1], aI G (ad 14) 4 (js 3), aI G (ad 15) 8 (js 4), aI G (ad 16) 4 (js 0), aR G (ad 17) 40 rr, oW (ad 18) [.ref (ad 19), .ref (ad 20), zv 3], aI G (ad 19) 4 (js 5), aI G (ad 20) 8 (js 6)] ++ rp) := by
  refine Ctr.start (by decide) (Nat.le_of_ble_eq_true rfl) ?_
  intro zp ze zs zm below meth zc A ls C0 hin hK hA hl hw
  obtain ⟨hx, hb, hr, hlk, hml, hown, hts⟩ := C0
  obtain ⟨R, hRR⟩ : ∃ R : Room, R = rmL 1 0 0 := ⟨_, rfl⟩
  have hRf : R.frames = 1 := by rw [hRR]
  have hRl : R.locals = 64 * 1 := by rw [hRR]
  have hRc : R.cells = 0 := by rw [hRR]
  have hRs : R.slots = 0 := by rw [hRR]
  rw [← hRR]; clear hRR
  generalize hQ : MQ below _ _ zs _ _ A = Q
  generalize hAr : List.toArray _ = args at hts hQ ⊢
  replace hl : lv_has ls 3 [(0, .ref (ad 0)), (1, .int (nI i))] := hl
  obtain ⟨H, eH⟩ : ∃ H : Heap, H = zs.heap := ⟨_, rfl⟩
  obtain ⟨locs, eL⟩ : ∃ l0 : List Loc, l0 = [] := ⟨_, rfl⟩
  rw [← eH, ← eL] at hw ⊢; clear eH eL
  have hE8 := hE.2.2
  have hln := hX.2.2.1
  have hpw := pow_mono hX.2.2.2
  have hpos := hE1 ho1
  obtain ⟨-, hbo⟩ : ov = 1 ∧ boF ov E.length = nI (E.length - 1) := ⟨ho1, by unfold boF; rw [if_pos ho1]⟩
  have hl0 := lv_le hLI (E.length - 1) (by omega)
  refine lv_aload_n hx hb d_X_wayAt_0 rfl (lv_at hl 0 rfl) ?_
  refine g_X_49 hx hb hts hown hK hw 0 rfl rfl d_X_wayAt_1 ?_
  refine lv_iconst (v := -1) hx hb d_X_wayAt_4 (by decide) ?_
  refine lv_icmp_eq (tgt := 29) hx hb d_X_wayAt_5 (by decide) (fun c_5 => ?_) (fun c_5 => ?_)
  · skip
    exact absurd c_5 (by rw [hbo]; exact nI_neg (by omega))
  · skip
    refine lv_iload_n hx hb d_X_wayAt_8 rfl (lv_at hl 1 rfl) ?_
    refine lv_if_lt (tgt := 29) hx hb d_X_wayAt_9 (by decide) (fun c_9 => ?_) (fun c_9 => ?_)
    · skip
      exact absurd c_9 (nI_pos (by omega))
    · skip
      refine lv_iload_n hx hb d_X_wayAt_12 rfl (lv_at hl 1 rfl) ?_
      refine lv_aload_n hx hb d_X_wayAt_13 rfl (lv_at hl 0 rfl) ?_
      refine g_X_37 hx hb hts hown hK hw 0 rfl rfl d_X_wayAt_14 ?_
      refine lv_aload_n hx hb d_X_wayAt_17 rfl (lv_at hl 0 rfl) ?_
      refine g_X_49 hx hb hts hown hK hw 0 rfl rfl d_X_wayAt_18 ?_
      refine r_eq (show boF ov E.length = nI (E.length - 1) from hbo) ?_
      refine r_iald hx hb hK hw 6 rfl (by omega) (by omega) d_X_wayAt_21 ?_
      refine r_eq (show (fs 4) (E.length - 1) = nI (lvE E (E.length - 1)) from (hX.1 (E.length - 1) (by omega)).2.2.2.1) ?_
      refine r_icmp_gt (tgt := 29) hx hb (by omega) (by omega) d_X_wayAt_22 (by decide) (fun c_22 => ?_) (fun c_22 => ?_)
      · skip
        exfalso; omega
      · skip
        refine lv_iconst (v := nI 1) hx hb d_X_wayAt_25 rfl ?_
        refine lv_goto (tgt := 30) hx hb d_X_wayAt_26 (by decide) ?_
        refine xS_v (rest := []) (As := [.int (nI 1)]) hx hb hml hown hts hK hA hw k_X_243 (c_X_there zl G) ([]) rfl rfl (fun _ => Nat.le_of_ble_eq_true rfl) rfl rfl hl.1 (Nat.le_of_ble_eq_true rfl) ⟨(by omega), (by omega)⟩ ⟨(by omega), (by omega)⟩ d_X_wayAt_30 (fun _ u H locs hp hw1 => ?_)
        refine W.cs (cells' := 0) (slots' := 0) rfl rfl ?_
        replace hw : WW G A zs ([oX (ad 0) [.int (nI n), .int (nI room), .int (nI Sx), .int (nI Kx), .ref (ad 17), .int (nI rs.length), .ref (ad 1), .ref (ad 2), .int (nI ps.length), .ref (qa 1), .ref (qa 2), .ref (qa 3), .ref (qa 4), .ref (qa 5), .ref (qa 6), .int (nI E.length), .int (nI S.length), .ref (qa 7), .int (boF ov E.length), .int (fuF ov), .int (nI md), .int (nI ag), .ref (ad 18), .ref (ad 10), .ref (ad 13), .ref (ad 16), zv 2], aZ G (ad 1) 64 fb, aI G (ad 2) 96 fn, aJ G (qa 1) (64 * 2 ^ j) fm, aI G (qa 2) (64 * 2 ^ j) (fs 2), aI G (qa 3) (64 * 2 ^ j) (fs 3), aI G (qa 4) (64 * 2 ^ j) (fs 4), aI G (qa 5) (64 * 2 ^ j) (fs 5), aI G (qa 6) (64 * 2 ^ j) (fs 6), aI G (qa 7) (2 ^ (8 + j)) (fs 7), oW (ad 10) [.ref (ad 11), .ref (ad 12), zv 0], aI G (ad 11) 4 (js 1), aI G (ad 12) 8 (js 2), oW (ad 13) [.ref (ad 14), .ref (ad 15), zv 1], aI G (ad 14) 4 (js 3), aI G (ad 15) 8 (js 4), aI G (ad 16) 4 (js 0), aR G (ad 17) 40 rr, oW (ad 18) [.ref (ad 19), .ref (ad 20), zv 3], aI G (ad 19) 4 (js 5), aI G (ad 20) 8 (js 6)] ++ rp) H locs := hw1
        refine lv_aload_n hx hb d_X_wayAt_33 rfl (lv_at hl 0 rfl) ?_
        refine g_X_49 hx hb hts hown hK hw 0 rfl rfl d_X_wayAt_34 ?_
        refine r_eq (show boF ov E.length = nI (E.length - 1) from hbo) ?_
        refine lv_istore_n (lv' := [(2, .int (nI (E.length - 1))), (0, .ref (ad 0)), (1, .int (nI i))]) hx hb d_X_wayAt_37 rfl hl (by decide) rfl (fun ls hl => ?_)
        have Lp38 : ∀ N_38 : Nat, ∀ (k : Nat) (f : Nat), (k < E.length) → (k < f) → (wayK E i f k = wayK E i (E.length + 1) (E.length - 1)) → k < N_38 → ∀ (H : Heap) (locs : List Loc) (ls : Array Slot), lv_has ls 3 [(0, .ref (ad 0)), (1, .int (nI i)), (2, .int (nI k))] → WW G A zs ([oX (ad 0) [.int (nI n), .int (nI room), .int (nI Sx), .int (nI Kx), .ref (ad 17), .int (nI rs.length), .ref (ad 1), .ref (ad 2), .int (nI ps.length), .ref (qa 1), .ref (qa 2), .ref (qa 3), .ref (qa 4), .ref (qa 5), .ref (qa 6), .int (nI E.length), .int (nI S.length), .ref (qa 7), .int (boF ov E.length), .int (fuF ov), .int (nI md), .int (nI ag), .ref (ad 18), .ref (ad 10), .ref (ad 13), .ref (ad 16), zv 2], aZ G (ad 1) 64 fb, aI G (ad 2) 96 fn, aJ G (qa 1) (64 * 2 ^ j) fm, aI G (qa 2) (64 * 2 ^ j) (fs 2), aI G (qa 3) (64 * 2 ^ j) (fs 3), aI G (qa 4) (64 * 2 ^ j) (fs 4), aI G (qa 5) (64 * 2 ^ j) (fs 5), aI G (qa 6) (64 * 2 ^ j) (fs 6), aI G (qa 7) (2 ^ (8 + j)) (fs 7), oW (ad 10) [.ref (ad 11), .ref (ad 12), zv 0], aI G (ad 11) 4 (js 1), aI G (ad 12) 8 (js 2), oW (ad 13) [.ref (ad 14), .ref (ad 15), zv 1], aI G (ad 14) 4 (js 3), aI G (ad 15) 8 (js 4), aI G (ad 16) 4 (js 0), aR G (ad 17) 40 rr, oW (ad 18) [.ref (ad 19), .ref (ad 20), zv 3], aI G (ad 19) 4 (js 5), aI G (ad 20) 8 (js 6)] ++ rp) H locs → W zp zl ze R zs zm args below meth zc H locs 0 0 Q (F0 zm 38 ls []) := by
          intro N_38
          induction N_38 with
          | zero => intros; omega
          | succ N_38 ih_38 =>
            intro k f hk hkf hw9 hN_38 H locs ls hl hw
            have hlvk := lv_le hLI k hk
            refine lv_aload_n hx hb d_X_wayAt_38 rfl (lv_at hl 0 rfl) ?_
            refine g_X_37 hx hb hts hown hK hw 0 rfl rfl d_X_wayAt_39 ?_
            refine lv_iload_n hx hb d_X_wayAt_42 rfl (lv_at hl 2 rfl) ?_
            refine r_iald hx hb hK hw 6 rfl (by omega) (by omega) d_X_wayAt_43 ?_
            refine r_eq (show (fs 4) k = nI (lvE E k) from (hX.1 k hk).2.2.2.1) ?_
            refine lv_iload_n hx hb d_X_wayAt_44 rfl (lv_at hl 1 rfl) ?_
            refine r_icmp_le (tgt := 58) hx hb (by omega) (by omega) d_X_wayAt_45 (by decide) (fun c_45 => ?_) (fun c_45 => ?_)
            · skip
              refine lv_iload_n hx hb d_X_wayAt_58 rfl (lv_at hl 2 rfl) ?_
              exact r_ret hQ (r_iret () hx hb hr hlk hw (by rw [← hw9]; cases f with | zero => omega | succ f1 => show nI k = nI (if _ then _ else _); rw [if_neg (by omega)]) (by omega) (by omega) d_X_wayAt_59)
            · skip
              obtain ⟨k1, hk1, hfr1, hlv1⟩ := way_par hLI hk c_45
              obtain ⟨f1, rfl⟩ : ∃ f1, f = f1 + 1 := ⟨f - 1, by omega⟩
              have hstep : wayK E i f1 k1 = wayK E i (f1 + 1) k := by show _ = (if _ then _ else _); rw [if_pos c_45, hfr1, nI_clamp (by omega)]
              refine lv_aload_n hx hb d_X_wayAt_48 rfl (lv_at hl 0 rfl) ?_
              refine g_X_31 hx hb hts hown hK hw 0 rfl rfl d_X_wayAt_49 ?_
              refine lv_iload_n hx hb d_X_wayAt_52 rfl (lv_at hl 2 rfl) ?_
              refine r_iald hx hb hK hw 4 rfl (by omega) (by omega) d_X_wayAt_53 ?_
              refine r_eq (show (fs 2) k = nI k1 from ((hX.1 k hk).2.1).trans hfr1) ?_
              refine lv_istore_n (lv' := [(2, .int (nI k1)), (0, .ref (ad 0)), (1, .int (nI i))]) hx hb d_X_wayAt_54 rfl hl (by decide) rfl (fun ls hl => ?_)
              refine lv_goto (tgt := 38) hx hb d_X_wayAt_55 (by decide) ?_
              exact ih_38 k1 f1 (by omega) (by omega) (by rw [← hw9]; exact hstep) (by omega) _ _ _ (lv_sub hl [1, 2, 0] rfl) hw
        exact Lp38 _ (E.length - 1) (E.length + 1) (by omega) (by omega) rfl (Nat.lt_succ_self _) _ _ _ (lv_sub hl [1, 2, 0] rfl) hw
set_option maxHeartbeats 4000000 in
set_option maxRecDepth 100000 in
theorem c_X_dead (zl : Launch) (G : GG) (ad qa : Nat → Nat) (fm : Nat → Int64) (fs js : Nat → Nat → Int32) (zv : Nat → Value) (fb fn : Nat → Int32) (rr : Nat → Option Nat) (rp : va_W) (n room Sx Kx j : Nat) (ps : List (List Nat)) (B : Nat → Bool) (rs : List Rl) (E : List Ent) (S : List Nat) (md ag ov : Nat) (hX : XR E j fm fs) (hE : EOK n room E) (hXS : XS S (fs 5)) (hSl : S.length ≤ E.length) (hS9 : ∀ k, k < S.length → S.getD k 0 < 2147483648) : Ctr (S := Unit) vI zl y_X_dead b_X_dead 3 (Option.some Jvm.ClassFile.FieldType.int) 0 0 0 G [.ref (ad 0)] ([oX (ad 0) [.int (nI n), .int (nI room), .int (nI Sx), .int (nI Kx), .ref (ad 17), .int (nI rs.length), .ref (ad 1), .ref (ad 2), .int (nI ps.length), .ref (qa 1), .ref (qa 2), .ref (qa 3), .ref (qa 4), .ref (qa 5), .ref (qa 6), .int (nI E.length), .int (nI S.length), .ref (qa 7), .int (boF ov E.length), .int (fuF ov), .int (nI md), .int (nI ag), .ref (ad 18), .ref (ad 10), .ref (ad 13), .ref (ad 16), zv 2], aZ G (ad 1) 64 fb, aI G (ad 2) 96 fn, aJ G (qa 1) (64 * 2 ^ j) fm, aI G (qa 2) (64 * 2 ^ j) (fs 2), aI G (qa 3) (64 * 2 ^ j) (fs 3), aI G (qa 4) (64 * 2 ^ j) (fs 4), aI G (qa 5) (64 * 2 ^ j) (fs 5), aI G (qa 6) (64 * 2 ^ j) (fs 6), aI G (qa 7) (2 ^ (8 + j)) (fs 7), oW (ad 10) [.ref (ad 11), .ref (ad 12), zv 0], aI G (ad 11) 4 (js 1), aI G (ad 12) 8 (js 2), oW (ad 13) [.ref (ad 14), .ref (ad 15), zv 1], aI G (ad 14) 4 (js 3), aI G (ad 15) 8 (js 4), aI G (ad 16) 4 (js 0), aR G (ad 17) 40 rr, oW (ad 18) [.ref (ad 19), .ref (ad 20), zv 3], aI G (ad 19) 4 (js 5), aI G (ad 20) 8 (js 6)] ++ rp) (fun r _ => r = nI (deadN S S.length)) (fun _ => [oX (ad 0) [.int (nI n), .int (nI room), .int (nI Sx), .int (nI Kx), .ref (ad 17), .int (nI rs.length), .ref (ad 1), .ref (ad 2), .int (nI ps.length), .ref (qa 1), .ref (qa 2), .ref (qa 3), .ref (qa 4), .ref (qa 5), .ref (qa 6), .int (nI E.length), .int (nI S.length), .ref (qa 7), .int (boF ov E.length), .int (fuF ov), .int (nI md), .int (nI ag), .ref (ad 18), .ref (ad 10), .ref (ad 13), .ref (ad 16), zv 2], aZ G (ad 1) 64 fb, aI G (ad 2) 96 fn, aJ G (qa 1) (64 * 2 ^ j) fm, aI G (qa 2) (64 * 2 ^ j) (fs 2), aI G (qa 3) (64 * 2 ^ j) (fs 3), aI G (qa 4) (64 * 2 ^ j) (fs 4), aI G (qa 5) (64 * 2 ^ j) (fs 5), aI G (qa 6) (64 * 2 ^ j) (fs 6), aI G (qa 7) (2 ^ (8 + j)) (fs 7), oW (ad 10) [.ref (ad 11), .ref (ad 12), zv 0], aI G (ad 11) 4 (js 1), aI G (ad 12) 8 (js 2), oW (ad 13) [.ref (ad 14), .ref (ad 15), zv 1], aI G (ad 14) 4 (js 3), aI G (ad 15) 8 (js 4), aI G (ad 16) 4 (js 0), aR G (ad 17) 40 rr, oW (ad 18) [.ref (ad 19), .ref (ad 20), zv 3], aI G (ad 19) 4 (js 5), aI G (ad 20) 8 (js 6)] ++ rp) := by
  refine Ctr.start (by decide) (Nat.le_of_ble_eq_true rfl) ?_
  intro zp ze zs zm below meth zc A ls C0 hin hK hA hl hw
  obtain ⟨hx, hb, hr, hlk, hml, hown, hts⟩ := C0
  obtain ⟨R, hRR⟩ : ∃ R : Room, R = rmL 0 0 0 := ⟨_, rfl⟩
  have hRf : R.frames = 0 := by rw [hRR]
  have hRl : R.locals = 64 * 0 := by rw [hRR]
  have hRc : R.cells = 0 := by rw [hRR]
  have hRs : R.slots = 0 := by rw [hRR]
  rw [← hRR]; clear hRR
  generalize hQ : MQ below _ _ zs _ _ A = Q
  generalize hAr : List.toArray _ = args at hts hQ ⊢
  replace hl : lv_has ls 3 [(0, .ref (ad 0))] := hl
  obtain ⟨H, eH⟩ : ∃ H : Heap, H = zs.heap := ⟨_, rfl⟩
  obtain ⟨locs, eL⟩ : ∃ l0 : List Loc, l0 = [] := ⟨_, rfl⟩
  rw [← eH, ← eL] at hw ⊢; clear eH eL
  have hE8 := hE.2.2
  have hln := hX.2.2.1
  have hpw := pow_mono hX.2.2.2
  refine lv_iconst (v := nI 0) hx hb d_X_dead_0 rfl ?_
  refine lv_istore_n (lv' := [(1, .int (nI 0)), (0, .ref (ad 0))]) hx hb d_X_dead_1 rfl hl (by decide) rfl (fun ls hl => ?_)
  refine lv_iconst (v := nI 0) hx hb d_X_dead_2 rfl ?_
  refine lv_istore_n (lv' := [(2, .int (nI 0)), (1, .int (nI 0)), (0, .ref (ad 0))]) hx hb d_X_dead_3 rfl hl (by decide) rfl (fun ls hl => ?_)
  have Lp4 : ∀ N_4 : Nat, ∀ (k : Nat), (k ≤ S.length) → S.length - k < N_4 → ∀ (H : Heap) (locs : List Loc) (ls : Array Slot), lv_has ls 3 [(0, .ref (ad 0)), (1, .int (nI (deadN S k))), (2, .int (nI k))] → WW G A zs ([oX (ad 0) [.int (nI n), .int (nI room), .int (nI Sx), .int (nI Kx), .ref (ad 17), .int (nI rs.length), .ref (ad 1), .ref (ad 2), .int (nI ps.length), .ref (qa 1), .ref (qa 2), .ref (qa 3), .ref (qa 4), .ref (qa 5), .ref (qa 6), .int (nI E.length), .int (nI S.length), .ref (qa 7), .int (boF ov E.length), .int (fuF ov), .int (nI md), .int (nI ag), .ref (ad 18), .ref (ad 10), .ref (ad 13), .ref (ad 16), zv 2], aZ G (ad 1) 64 fb, aI G (ad 2) 96 fn, aJ G (qa 1) (64 * 2 ^ j) fm, aI G (qa 2) (64 * 2 ^ j) (fs 2), aI G (qa 3) (64 * 2 ^ j) (fs 3), aI G (qa 4) (64 * 2 ^ j) (fs 4), aI G (qa 5) (64 * 2 ^ j) (fs 5), aI G (qa 6) (64 * 2 ^ j) (fs 6), aI G (qa 7) (2 ^ (8 + j)) (fs 7), oW (ad 10) [.ref (ad 11), .ref (ad 12), zv 0], aI G (ad 11) 4 (js 1), aI G (ad 12) 8 (js 2), oW (ad 13) [.ref (ad 14), .ref (ad 15), zv 1], aI G (ad 14) 4 (js 3), aI G (ad 15) 8 (js 4), aI G (ad 16) 4 (js 0), aR G (ad 17) 40 rr, oW (ad 18) [.ref (ad 19), .ref (ad 20), zv 3], aI G (ad 19) 4 (js 5), aI G (ad 20) 8 (js 6)] ++ rp) H locs → W zp zl ze R zs zm args below meth zc H locs 0 0 Q (F0 zm 4 ls []) := by
    intro N_4
    induction N_4 with
    | zero => intros; omega
    | succ N_4 ih_4 =>
      intro k hk hN_4 H locs ls hl hw
      refine lv_iload_n hx hb d_X_dead_4 rfl (lv_at hl 2 rfl) ?_
      refine lv_aload_n hx hb d_X_dead_5 rfl (lv_at hl 0 rfl) ?_
      refine g_X_102 hx hb hts hown hK hw 0 rfl rfl d_X_dead_6 ?_
      refine r_icmp_ge (tgt := 35) hx hb (by omega) (by omega) d_X_dead_9 (by decide) (fun c_9 => ?_) (fun c_9 => ?_)
      · skip
        refine lv_iload_n hx hb d_X_dead_35 rfl (lv_at hl 1 rfl) ?_
        exact r_ret hQ (r_iret () hx hb hr hlk hw (by rw [show k = S.length by omega]) (by omega) (by omega) d_X_dead_36)
      · skip
        refine lv_iload_n hx hb d_X_dead_12 rfl (lv_at hl 1 rfl) ?_
        refine lv_aload_n hx hb d_X_dead_13 rfl (lv_at hl 0 rfl) ?_
        refine g_X_40 hx hb hts hown hK hw 0 rfl rfl d_X_dead_14 ?_
        refine lv_iload_n hx hb d_X_dead_17 rfl (lv_at hl 2 rfl) ?_
        refine r_iald hx hb hK hw 7 rfl (by omega) (by omega) d_X_dead_18 ?_
        refine r_eq (show (fs 5) k = nI (S.getD k 0) from hXS k c_9) ?_
        refine r_if_ne (tgt := 26) hx hb (Nat.lt_of_lt_of_le (hS9 k c_9) (by decide)) d_X_dead_19 (by decide) (fun c_19 => ?_) (fun c_19 => ?_)
        · skip
          refine lv_iconst (v := nI 0) hx hb d_X_dead_26 rfl ?_
          refine r_iaddN hx hb d_X_dead_27 ?_
          refine r_eq (show nI ((deadN S k) + 0) = nI (deadN S (k + 1)) from congrArg nI (by show _ = deadN S k + (if _ then _ else _); rw [if_neg c_19])) ?_
          refine lv_istore_n (lv' := [(1, .int (nI (deadN S (k + 1)))), (0, .ref (ad 0)), (2, .int (nI k))]) hx hb d_X_dead_28 rfl hl (by decide) rfl (fun ls hl => ?_)
          refine r_iincN (n := 1) (lv' := [(2, .int (nI (k + 1))), (1, .int (nI (deadN S (k + 1)))), (0, .ref (ad 0))]) hx hb d_X_dead_29 hl (k := 2) rfl (by decide) rfl (fun ls hl => ?_)
          refine lv_goto (tgt := 4) hx hb d_X_dead_32 (by decide) ?_
          exact ih_4 (k + 1) (by omega) (by omega) _ _ _ (lv_sub hl [2, 1, 0] rfl) hw
        · skip
          refine lv_iconst (v := nI 1) hx hb d_X_dead_22 rfl ?_
          refine lv_goto (tgt := 27) hx hb d_X_dead_23 (by decide) ?_
          refine r_iaddN hx hb d_X_dead_27 ?_
          refine r_eq (show nI ((deadN S k) + 1) = nI (deadN S (k + 1)) from congrArg nI (by show _ = deadN S k + (if _ then _ else _); rw [if_pos c_19])) ?_
          refine lv_istore_n (lv' := [(1, .int (nI (deadN S (k + 1)))), (0, .ref (ad 0)), (2, .int (nI k))]) hx hb d_X_dead_28 rfl hl (by decide) rfl (fun ls hl => ?_)
          refine r_iincN (n := 1) (lv' := [(2, .int (nI (k + 1))), (1, .int (nI (deadN S (k + 1)))), (0, .ref (ad 0))]) hx hb d_X_dead_29 hl (k := 2) rfl (by decide) rfl (fun ls hl => ?_)
          refine lv_goto (tgt := 4) hx hb d_X_dead_32 (by decide) ?_
          exact ih_4 (k + 1) (by omega) (by omega) _ _ _ (lv_sub hl [2, 1, 0] rfl) hw
-- MISMATCH X_dead pc 4: deadN S 0 vs 0 (local 1)
  exact Lp4 _ 0 (by omega) (Nat.lt_succ_self _) _ _ _ (lv_sub hl [2, 1, 0] rfl) hw
set_option maxHeartbeats 4000000 in
set_option maxRecDepth 100000 in
theorem c_X_sum (zl : Launch) (G : GG) (ad qa : Nat → Nat) (fm : Nat → Int64) (fs js : Nat → Nat → Int32) (zv : Nat → Value) (fb fn : Nat → Int32) (rr : Nat → Option Nat) (rp : va_W) (n room Sx Kx j : Nat) (ps : List (List Nat)) (B : Nat → Bool) (rs : List Rl) (E : List Ent) (S : List Nat) (md ag ov : Nat) (hX : XR E j fm fs) (hE : EOK n room E) (hAL : ALa E) (h24 : ps.length ≤ 24) : Ctr (S := Unit) vI zl y_X_sum b_X_sum 3 (Option.some Jvm.ClassFile.FieldType.int) 0 0 0 G [.ref (ad 0)] ([oX (ad 0) [.int (nI n), .int (nI room), .int (nI Sx), .int (nI Kx), .ref (ad 17), .int (nI rs.length), .ref (ad 1), .ref (ad 2), .int (nI ps.length), .ref (qa 1), .ref (qa 2), .ref (qa 3), .ref (qa 4), .ref (qa 5), .ref (qa 6), .int (nI E.length), .int (nI S.length), .ref (qa 7), .int (boF ov E.length), .int (fuF ov), .int (nI md), .int (nI ag), .ref (ad 18), .ref (ad 10), .ref (ad 13), .ref (ad 16), zv 2], aZ G (ad 1) 64 fb, aI G (ad 2) 96 fn, aJ G (qa 1) (64 * 2 ^ j) fm, aI G (qa 2) (64 * 2 ^ j) (fs 2), aI G (qa 3) (64 * 2 ^ j) (fs 3), aI G (qa 4) (64 * 2 ^ j) (fs 4), aI G (qa 5) (64 * 2 ^ j) (fs 5), aI G (qa 6) (64 * 2 ^ j) (fs 6), aI G (qa 7) (2 ^ (8 + j)) (fs 7), oW (ad 10) [.ref (ad 11), .ref (ad 12), zv 0], aI G (ad 11) 4 (js 1), aI G (ad 12) 8 (js 2), oW (ad 13) [.ref (ad 14), .ref (ad 15), zv 1], aI G (ad 14) 4 (js 3), aI G (ad 15) 8 (js 4), aI G (ad 16) 4 (js 0), aR G (ad 17) 40 rr, oW (ad 18) [.ref (ad 19), .ref (ad 20), zv 3], aI G (ad 19) 4 (js 5), aI G (ad 20) 8 (js 6)] ++ rp) (fun r _ => r = nI (sumN ps.length E E.length)) (fun _ => [oX (ad 0) [.int (nI n), .int (nI room), .int (nI Sx), .int (nI Kx), .ref (ad 17), .int (nI rs.length), .ref (ad 1), .ref (ad 2), .int (nI ps.length), .ref (qa 1), .ref (qa 2), .ref (qa 3), .ref (qa 4), .ref (qa 5), .ref (qa 6), .int (nI E.length), .int (nI S.length), .ref (qa 7), .int (boF ov E.length), .int (fuF ov), .int (nI md), .int (nI ag), .ref (ad 18), .ref (ad 10), .ref (ad 13), .ref (ad 16), zv 2], aZ G (ad 1) 64 fb, aI G (ad 2) 96 fn, aJ G (qa 1) (64 * 2 ^ j) fm, aI G (qa 2) (64 * 2 ^ j) (fs 2), aI G (qa 3) (64 * 2 ^ j) (fs 3), aI G (qa 4) (64 * 2 ^ j) (fs 4), aI G (qa 5) (64 * 2 ^ j) (fs 5), aI G (qa 6) (64 * 2 ^ j) (fs 6), aI G (qa 7) (2 ^ (8 + j)) (fs 7), oW (ad 10) [.ref (ad 11), .ref (ad 12), zv 0], aI G (ad 11) 4 (js 1), aI G (ad 12) 8 (js 2), oW (ad 13) [.ref (ad 14), .ref (ad 15), zv 1], aI G (ad 14) 4 (js 3), aI G (ad 15) 8 (js 4), aI G (ad 16) 4 (js 0), aR G (ad 17) 40 rr, oW (ad 18) [.ref (ad 19), .ref (ad 20), zv 3], aI G (ad 19) 4 (js 5), aI G (ad 20) 8 (js 6)] ++ rp) := by
  refine Ctr.start (by decide) (Nat.le_of_ble_eq_true rfl) ?_
  intro zp ze zs zm below meth zc A ls C0 hin hK hA hl hw
  obtain ⟨hx, hb, hr, hlk, hml, hown, hts⟩ := C0
  obtain ⟨R, hRR⟩ : ∃ R : Room, R = rmL 0 0 0 := ⟨_, rfl⟩
  have hRf : R.frames = 0 := by rw [hRR]
  have hRl : R.locals = 64 * 0 := by rw [hRR]
  have hRc : R.cells = 0 := by rw [hRR]
  have hRs : R.slots = 0 := by rw [hRR]
  rw [← hRR]; clear hRR
  generalize hQ : MQ below _ _ zs _ _ A = Q
  generalize hAr : List.toArray _ = args at hts hQ ⊢
  replace hl : lv_has ls 3 [(0, .ref (ad 0))] := hl
  obtain ⟨H, eH⟩ : ∃ H : Heap, H = zs.heap := ⟨_, rfl⟩
  obtain ⟨locs, eL⟩ : ∃ l0 : List Loc, l0 = [] := ⟨_, rfl⟩
  rw [← eH, ← eL] at hw ⊢; clear eH eL
  have hE8 := hE.2.2
  have hln := hX.2.2.1
  have hpw := pow_mono hX.2.2.2
  refine lv_iconst (v := nI 0) hx hb d_X_sum_0 rfl ?_
  refine lv_istore_n (lv' := [(1, .int (nI 0)), (0, .ref (ad 0))]) hx hb d_X_sum_1 rfl hl (by decide) rfl (fun ls hl => ?_)
  refine lv_iconst (v := nI 0) hx hb d_X_sum_2 rfl ?_
  refine lv_istore_n (lv' := [(2, .int (nI 0)), (1, .int (nI 0)), (0, .ref (ad 0))]) hx hb d_X_sum_3 rfl hl (by decide) rfl (fun ls hl => ?_)
  have Lp4 : ∀ N_4 : Nat, ∀ (k : Nat), (k ≤ E.length) → E.length - k < N_4 → ∀ (H : Heap) (locs : List Loc) (ls : Array Slot), lv_has ls 3 [(0, .ref (ad 0)), (1, .int (nI (sumN ps.length E k))), (2, .int (nI k))] → WW G A zs ([oX (ad 0) [.int (nI n), .int (nI room), .int (nI Sx), .int (nI Kx), .ref (ad 17), .int (nI rs.length), .ref (ad 1), .ref (ad 2), .int (nI ps.length), .ref (qa 1), .ref (qa 2), .ref (qa 3), .ref (qa 4), .ref (qa 5), .ref (qa 6), .int (nI E.length), .int (nI S.length), .ref (qa 7), .int (boF ov E.length), .int (fuF ov), .int (nI md), .int (nI ag), .ref (ad 18), .ref (ad 10), .ref (ad 13), .ref (ad 16), zv 2], aZ G (ad 1) 64 fb, aI G (ad 2) 96 fn, aJ G (qa 1) (64 * 2 ^ j) fm, aI G (qa 2) (64 * 2 ^ j) (fs 2), aI G (qa 3) (64 * 2 ^ j) (fs 3), aI G (qa 4) (64 * 2 ^ j) (fs 4), aI G (qa 5) (64 * 2 ^ j) (fs 5), aI G (qa 6) (64 * 2 ^ j) (fs 6), aI G (qa 7) (2 ^ (8 + j)) (fs 7), oW (ad 10) [.ref (ad 11), .ref (ad 12), zv 0], aI G (ad 11) 4 (js 1), aI G (ad 12) 8 (js 2), oW (ad 13) [.ref (ad 14), .ref (ad 15), zv 1], aI G (ad 14) 4 (js 3), aI G (ad 15) 8 (js 4), aI G (ad 16) 4 (js 0), aR G (ad 17) 40 rr, oW (ad 18) [.ref (ad 19), .ref (ad 20), zv 3], aI G (ad 19) 4 (js 5), aI G (ad 20) 8 (js 6)] ++ rp) H locs → W zp zl ze R zs zm args below meth zc H locs 0 0 Q (F0 zm 4 ls []) := by
    intro N_4
    induction N_4 with
    | zero => intros; omega
    | succ N_4 ih_4 =>
      intro k hk hN_4 H locs ls hl hw
      refine lv_iload_n hx hb d_X_sum_4 rfl (lv_at hl 2 rfl) ?_
      refine lv_aload_n hx hb d_X_sum_5 rfl (lv_at hl 0 rfl) ?_
      refine g_X_99 hx hb hts hown hK hw 0 rfl rfl d_X_sum_6 ?_
      refine r_icmp_ge (tgt := 32) hx hb (by omega) (by omega) d_X_sum_9 (by decide) (fun c_9 => ?_) (fun c_9 => ?_)
      · skip
        refine lv_iload_n hx hb d_X_sum_32 rfl (lv_at hl 1 rfl) ?_
        exact r_ret hQ (r_iret () hx hb hr hlk hw (by rw [show k = E.length by omega]) (by omega) (by omega) d_X_sum_33)
      · skip
        have hal := hAL k c_9
        refine lv_iload_n hx hb d_X_sum_12 rfl (lv_at hl 1 rfl) ?_
        refine lv_aload_n hx hb d_X_sum_13 rfl (lv_at hl 0 rfl) ?_
        refine g_X_87 hx hb hts hown hK hw 0 rfl rfl d_X_sum_14 ?_
        refine lv_aload_n hx hb d_X_sum_17 rfl (lv_at hl 0 rfl) ?_
        refine g_X_43 hx hb hts hown hK hw 0 rfl rfl d_X_sum_18 ?_
        refine lv_iload_n hx hb d_X_sum_21 rfl (lv_at hl 2 rfl) ?_
        refine r_iald hx hb hK hw 8 rfl (by omega) (by omega) d_X_sum_22 ?_
        refine r_eq (show (fs 6) k = nI ((E.getD k eD).2.2.2.2) from (hX.1 k c_9).2.2.2.2) ?_
        refine r_idivN hx hb (by omega) (by omega) (by omega) d_X_sum_23 ?_
        refine r_iaddN hx hb d_X_sum_24 ?_
        refine r_eq (show nI ((sumN ps.length E k) + (ps.length / ((E.getD k eD).2.2.2.2))) = nI (sumN ps.length E (k + 1)) from rfl) ?_
        refine lv_istore_n (lv' := [(1, .int (nI (sumN ps.length E (k + 1)))), (0, .ref (ad 0)), (2, .int (nI k))]) hx hb d_X_sum_25 rfl hl (by decide) rfl (fun ls hl => ?_)
        refine r_iincN (n := 1) (lv' := [(2, .int (nI (k + 1))), (1, .int (nI (sumN ps.length E (k + 1)))), (0, .ref (ad 0))]) hx hb d_X_sum_26 hl (k := 2) rfl (by decide) rfl (fun ls hl => ?_)
        refine lv_goto (tgt := 4) hx hb d_X_sum_29 (by decide) ?_
        exact ih_4 (k + 1) (by omega) (by omega) _ _ _ (lv_sub hl [2, 1, 0] rfl) hw
-- MISMATCH X_sum pc 4: sumN ps.length E 0 vs 0 (local 1)
  exact Lp4 _ 0 (by omega) (Nat.lt_succ_self _) _ _ _ (lv_sub hl [2, 1, 0] rfl) hw
set_option maxHeartbeats 4000000 in
set_option maxRecDepth 100000 in
theorem c_X_count (zl : Launch) (G : GG) (ad qa : Nat → Nat) (fm : Nat → Int64) (fs js : Nat → Nat → Int32) (zv : Nat → Value) (fb fn : Nat → Int32) (rr : Nat → Option Nat) (rp : va_W) (n room Sx Kx j : Nat) (ps : List (List Nat)) (B : Nat → Bool) (rs : List Rl) (E : List Ent) (S : List Nat) (md ag ov : Nat) (x : Int32) (hX : XR E j fm fs) (hE : EOK n room E) (hXS : XS S (fs 5)) (hSl : S.length ≤ E.length) (hS9 : ∀ k, k < S.length → S.getD k 0 < 2147483648) (hAL : ALa E) (h24 : ps.length ≤ 24) : Ctr (S := Unit) vI zl y_X_count b_X_count 2 (Option.some Jvm.ClassFile.FieldType.int) 1 0 0 G [.ref (ad 0), .int x] ([oX (ad 0) [.int (nI n), .int (nI room), .int (nI Sx), .int (nI Kx), .ref (ad 17), .int (nI rs.length), .ref (ad 1), .ref (ad 2), .int (nI ps.length), .ref (qa 1), .ref (qa 2), .ref (qa 3), .ref (qa 4), .ref (qa 5), .ref (qa 6), .int (nI E.length), .int (nI S.length), .ref (qa 7), .int (boF ov E.length), .int (fuF ov), .int (nI md), .int (nI ag), .ref (ad 18), .ref (ad 10), .ref (ad 13), .ref (ad 16), zv 2], aZ G (ad 1) 64 fb, aI G (ad 2) 96 fn, aJ G (qa 1) (64 * 2 ^ j) fm, aI G (qa 2) (64 * 2 ^ j) (fs 2), aI G (qa 3) (64 * 2 ^ j) (fs 3), aI G (qa 4) (64 * 2 ^ j) (fs 4), aI G (qa 5) (64 * 2 ^ j) (fs 5), aI G (qa 6) (64 * 2 ^ j) (fs 6), aI G (qa 7) (2 ^ (8 + j)) (fs 7), oW (ad 10) [.ref (ad 11), .ref (ad 12), zv 0], aI G (ad 11) 4 (js 1), aI G (ad 12) 8 (js 2), oW (ad 13) [.ref (ad 14), .ref (ad 15), zv 1], aI G (ad 14) 4 (js 3), aI G (ad 15) 8 (js 4), aI G (ad 16) 4 (js 0), aR G (ad 17) 40 rr, oW (ad 18) [.ref (ad 19), .ref (ad 20), zv 3], aI G (ad 19) 4 (js 5), aI G (ad 20) 8 (js 6)] ++ rp) (fun r _ => r = cntA n Sx Kx rs.length ps.length E S md ag x) (fun _ => [oX (ad 0) [.int (nI n), .int (nI room), .int (nI Sx), .int (nI Kx), .ref (ad 17), .int (nI rs.length), .ref (ad 1), .ref (ad 2), .int (nI ps.length), .ref (qa 1), .ref (qa 2), .ref (qa 3), .ref (qa 4), .ref (qa 5), .ref (qa 6), .int (nI E.length), .int (nI S.length), .ref (qa 7), .int (boF ov E.length), .int (fuF ov), .int (nI md), .int (nI ag), .ref (ad 18), .ref (ad 10), .ref (ad 13), .ref (ad 16), zv 2], aZ G (ad 1) 64 fb, aI G (ad 2) 96 fn, aJ G (qa 1) (64 * 2 ^ j) fm, aI G (qa 2) (64 * 2 ^ j) (fs 2), aI G (qa 3) (64 * 2 ^ j) (fs 3), aI G (qa 4) (64 * 2 ^ j) (fs 4), aI G (qa 5) (64 * 2 ^ j) (fs 5), aI G (qa 6) (64 * 2 ^ j) (fs 6), aI G (qa 7) (2 ^ (8 + j)) (fs 7), oW (ad 10) [.ref (ad 11), .ref (ad 12), zv 0], aI G (ad 11) 4 (js 1), aI G (ad 12) 8 (js 2), oW (ad 13) [.ref (ad 14), .ref (ad 15), zv 1], aI G (ad 14) 4 (js 3), aI G (ad 15) 8 (js 4), aI G (ad 16) 4 (js 0), aR G (ad 17) 40 rr, oW (ad 18) [.ref (ad 19), .ref (ad 20), zv 3], aI G (ad 19) 4 (js 5), aI G (ad 20) 8 (js 6)] ++ rp) := by
  refine Ctr.start (by decide) (Nat.le_of_ble_eq_true rfl) ?_
  intro zp ze zs zm below meth zc A ls C0 hin hK hA hl hw
  obtain ⟨hx, hb, hr, hlk, hml, hown, hts⟩ := C0
  obtain ⟨R, hRR⟩ : ∃ R : Room, R = rmL 1 0 0 := ⟨_, rfl⟩
  have hRf : R.frames = 1 := by rw [hRR]
  have hRl : R.locals = 64 * 1 := by rw [hRR]
  have hRc : R.cells = 0 := by rw [hRR]
  have hRs : R.slots = 0 := by rw [hRR]
  rw [← hRR]; clear hRR
  generalize hQ : MQ below _ _ zs _ _ A = Q
  generalize hAr : List.toArray _ = args at hts hQ ⊢
  replace hl : lv_has ls 2 [(0, .ref (ad 0)), (1, .int x)] := hl
  obtain ⟨H, eH⟩ : ∃ H : Heap, H = zs.heap := ⟨_, rfl⟩
  obtain ⟨locs, eL⟩ : ∃ l0 : List Loc, l0 = [] := ⟨_, rfl⟩
  rw [← eH, ← eL] at hw ⊢; clear eH eL
  have hE8 := hE.2.2
  have hln := hX.2.2.1
  have hpw := pow_mono hX.2.2.2
  refine lv_iload_n hx hb d_X_count_0 rfl (lv_at hl 1 rfl) ?_
  by_cases sw_1_0 : x = nI 0
  · skip
    rw [sw_1_0]
    refine lv_tableIn (tgt := 60) hx hb d_X_count_1 (by decide) (by decide) rfl (by decide) ?_
    refine lv_aload_n hx hb d_X_count_60 rfl (lv_at hl 0 rfl) ?_
    refine g_X_74 hx hb hts hown hK hw 0 rfl rfl d_X_count_61 ?_
    exact r_ret hQ (r_iret () hx hb hr hlk hw (by unfold cntA; rw [ if_pos sw_1_0]) (by omega) (by omega) d_X_count_64)
  by_cases sw_1_1 : x = nI 1
  · skip
    rw [sw_1_1]
    refine lv_tableIn (tgt := 65) hx hb d_X_count_1 (by decide) (by decide) rfl (by decide) ?_
    refine lv_aload_n hx hb d_X_count_65 rfl (lv_at hl 0 rfl) ?_
    refine g_X_7 hx hb hts hown hK hw 0 rfl rfl d_X_count_66 ?_
    exact r_ret hQ (r_iret () hx hb hr hlk hw (by unfold cntA; rw [if_neg sw_1_0, if_pos sw_1_1]) (by omega) (by omega) d_X_count_69)
  by_cases sw_1_2 : x = nI 2
  · skip
    rw [sw_1_2]
    refine lv_tableIn (tgt := 70) hx hb d_X_count_1 (by decide) (by decide) rfl (by decide) ?_
    refine lv_aload_n hx hb d_X_count_70 rfl (lv_at hl 0 rfl) ?_
    refine g_X_119 hx hb hts hown hK hw 0 rfl rfl d_X_count_71 ?_
    exact r_ret hQ (r_iret () hx hb hr hlk hw (by unfold cntA; rw [if_neg sw_1_0, if_neg sw_1_1, if_pos sw_1_2]) (by omega) (by omega) d_X_count_74)
  by_cases sw_1_3 : x = nI 3
  · skip
    rw [sw_1_3]
    refine lv_tableIn (tgt := 75) hx hb d_X_count_1 (by decide) (by decide) rfl (by decide) ?_
    refine lv_aload_n hx hb d_X_count_75 rfl (lv_at hl 0 rfl) ?_
    refine g_X_129 hx hb hts hown hK hw 0 rfl rfl d_X_count_76 ?_
    exact r_ret hQ (r_iret () hx hb hr hlk hw (by unfold cntA; rw [if_neg sw_1_0, if_neg sw_1_1, if_neg sw_1_2, if_pos sw_1_3]) (by omega) (by omega) d_X_count_79)
  by_cases sw_1_4 : x = nI 4
  · skip
    rw [sw_1_4]
    refine lv_tableIn (tgt := 80) hx hb d_X_count_1 (by decide) (by decide) rfl (by decide) ?_
    refine lv_aload_n hx hb d_X_count_80 rfl (lv_at hl 0 rfl) ?_
    refine g_X_99 hx hb hts hown hK hw 0 rfl rfl d_X_count_81 ?_
    exact r_ret hQ (r_iret () hx hb hr hlk hw (by unfold cntA; rw [if_neg sw_1_0, if_neg sw_1_1, if_neg sw_1_2, if_neg sw_1_3, if_pos sw_1_4]) (by omega) (by omega) d_X_count_84)
  by_cases sw_1_5 : x = nI 5
  · skip
    rw [sw_1_5]
    refine lv_tableIn (tgt := 85) hx hb d_X_count_1 (by decide) (by decide) rfl (by decide) ?_
    refine lv_aload_n hx hb d_X_count_85 rfl (lv_at hl 0 rfl) ?_
    refine g_X_102 hx hb hts hown hK hw 0 rfl rfl d_X_count_86 ?_
    exact r_ret hQ (r_iret () hx hb hr hlk hw (by unfold cntA; rw [if_neg sw_1_0, if_neg sw_1_1, if_neg sw_1_2, if_neg sw_1_3, if_neg sw_1_4, if_pos sw_1_5]) (by omega) (by omega) d_X_count_89)
  by_cases sw_1_6 : x = nI 6
  · skip
    rw [sw_1_6]
    refine lv_tableIn (tgt := 90) hx hb d_X_count_1 (by decide) (by decide) rfl (by decide) ?_
    refine lv_aload_n hx hb d_X_count_90 rfl (lv_at hl 0 rfl) ?_
    refine g_X_99 hx hb hts hown hK hw 0 rfl rfl d_X_count_91 ?_
    refine r_if_ne (tgt := 101) hx hb (by omega) d_X_count_94 (by decide) (fun c_94 => ?_) (fun c_94 => ?_)
    · skip
      refine lv_aload_n hx hb d_X_count_101 rfl (lv_at hl 0 rfl) ?_
      refine g_X_37 hx hb hts hown hK hw 0 rfl rfl d_X_count_102 ?_
      refine lv_aload_n hx hb d_X_count_105 rfl (lv_at hl 0 rfl) ?_
      refine g_X_99 hx hb hts hown hK hw 0 rfl rfl d_X_count_106 ?_
      refine lv_iconst (v := nI 1) hx hb d_X_count_109 rfl ?_
      refine r_isubN hx hb (by omega) d_X_count_110 ?_
      refine r_iald hx hb hK hw 6 rfl (by omega) (by omega) d_X_count_111 ?_
      refine r_eq (show (fs 4) (E.length - 1) = nI (lvE E (E.length - 1)) from (hX.1 (E.length - 1) (by omega)).2.2.2.1) ?_
      exact r_ret hQ (r_iret () hx hb hr hlk hw (by unfold cntA; rw [if_neg sw_1_0, if_neg sw_1_1, if_neg sw_1_2, if_neg sw_1_3, if_neg sw_1_4, if_neg sw_1_5, if_pos sw_1_6, if_neg c_94]) (by omega) (by omega) d_X_count_112)
    · skip
      refine lv_iconst (v := -1) hx hb d_X_count_97 (by decide) ?_
      refine lv_goto (tgt := 112) hx hb d_X_count_98 (by decide) ?_
      exact r_ret hQ (r_iret () hx hb hr hlk hw (by unfold cntA; rw [if_neg sw_1_0, if_neg sw_1_1, if_neg sw_1_2, if_neg sw_1_3, if_neg sw_1_4, if_neg sw_1_5, if_pos sw_1_6, if_pos c_94]) (by omega) (by omega) d_X_count_112)
  by_cases sw_1_7 : x = nI 7
  · skip
    rw [sw_1_7]
    refine lv_tableIn (tgt := 113) hx hb d_X_count_1 (by decide) (by decide) rfl (by decide) ?_
    refine lv_aload_n hx hb d_X_count_113 rfl (lv_at hl 0 rfl) ?_
    refine g_X_109 hx hb hts hown hK hw 0 rfl rfl d_X_count_114 ?_
    exact r_ret hQ (r_iret () hx hb hr hlk hw (by unfold cntA; rw [if_neg sw_1_0, if_neg sw_1_1, if_neg sw_1_2, if_neg sw_1_3, if_neg sw_1_4, if_neg sw_1_5, if_neg sw_1_6, if_pos sw_1_7]) (by omega) (by omega) d_X_count_117)
  by_cases sw_1_8 : x = nI 8
  · skip
    rw [sw_1_8]
    refine lv_tableIn (tgt := 118) hx hb d_X_count_1 (by decide) (by decide) rfl (by decide) ?_
    refine lv_aload_n hx hb d_X_count_118 rfl (lv_at hl 0 rfl) ?_
    refine g_X_112 hx hb hts hown hK hw 0 rfl rfl d_X_count_119 ?_
    exact r_ret hQ (r_iret () hx hb hr hlk hw (by unfold cntA; rw [if_neg sw_1_0, if_neg sw_1_1, if_neg sw_1_2, if_neg sw_1_3, if_neg sw_1_4, if_neg sw_1_5, if_neg sw_1_6, if_neg sw_1_7, if_pos sw_1_8]) (by omega) (by omega) d_X_count_122)
  by_cases sw_1_9 : x = nI 9
  · skip
    rw [sw_1_9]
    refine lv_tableIn (tgt := 123) hx hb d_X_count_1 (by decide) (by decide) rfl (by decide) ?_
    refine lv_aload_n hx hb d_X_count_123 rfl (lv_at hl 0 rfl) ?_
    refine xVA_i (rest := []) (As := []) hx hb hml hown hts hK hA hw k_X_249 (c_X_dead zl G ad qa fm fs js zv fb fn rr rp n room Sx Kx j ps B rs E S md ag ov hX hE hXS hSl hS9) 0 rfl rfl rfl rfl hl.1 (Nat.le_of_ble_eq_true rfl) ⟨(by omega), (by omega)⟩ ⟨(by omega), (by omega)⟩ d_X_count_124 (fun r u H locs hp hw1 => ?_)
    refine W.cs (cells' := 0) (slots' := 0) rfl rfl ?_
    replace hw : WW G A zs ([oX (ad 0) [.int (nI n), .int (nI room), .int (nI Sx), .int (nI Kx), .ref (ad 17), .int (nI rs.length), .ref (ad 1), .ref (ad 2), .int (nI ps.length), .ref (qa 1), .ref (qa 2), .ref (qa 3), .ref (qa 4), .ref (qa 5), .ref (qa 6), .int (nI E.length), .int (nI S.length), .ref (qa 7), .int (boF ov E.length), .int (fuF ov), .int (nI md), .int (nI ag), .ref (ad 18), .ref (ad 10), .ref (ad 13), .ref (ad 16), zv 2], aZ G (ad 1) 64 fb, aI G (ad 2) 96 fn, aJ G (qa 1) (64 * 2 ^ j) fm, aI G (qa 2) (64 * 2 ^ j) (fs 2), aI G (qa 3) (64 * 2 ^ j) (fs 3), aI G (qa 4) (64 * 2 ^ j) (fs 4), aI G (qa 5) (64 * 2 ^ j) (fs 5), aI G (qa 6) (64 * 2 ^ j) (fs 6), aI G (qa 7) (2 ^ (8 + j)) (fs 7), oW (ad 10) [.ref (ad 11), .ref (ad 12), zv 0], aI G (ad 11) 4 (js 1), aI G (ad 12) 8 (js 2), oW (ad 13) [.ref (ad 14), .ref (ad 15), zv 1], aI G (ad 14) 4 (js 3), aI G (ad 15) 8 (js 4), aI G (ad 16) 4 (js 0), aR G (ad 17) 40 rr, oW (ad 18) [.ref (ad 19), .ref (ad 20), zv 3], aI G (ad 19) 4 (js 5), aI G (ad 20) 8 (js 6)] ++ rp) H locs := hw1
    exact r_ret hQ (r_iret () hx hb hr hlk hw (by unfold cntA; rw [if_neg sw_1_0, if_neg sw_1_1, if_neg sw_1_2, if_neg sw_1_3, if_neg sw_1_4, if_neg sw_1_5, if_neg sw_1_6, if_neg sw_1_7, if_neg sw_1_8, if_pos sw_1_9]; exact hp) (by omega) (by omega) d_X_count_127)
  by_cases sw_1_10 : x = nI 10
  · skip
    rw [sw_1_10]
    refine lv_tableIn (tgt := 128) hx hb d_X_count_1 (by decide) (by decide) rfl (by decide) ?_
    refine lv_aload_n hx hb d_X_count_128 rfl (lv_at hl 0 rfl) ?_
    refine xVA_i (rest := []) (As := []) hx hb hml hown hts hK hA hw k_X_253 (c_X_sum zl G ad qa fm fs js zv fb fn rr rp n room Sx Kx j ps B rs E S md ag ov hX hE hAL h24) 0 rfl rfl rfl rfl hl.1 (Nat.le_of_ble_eq_true rfl) ⟨(by omega), (by omega)⟩ ⟨(by omega), (by omega)⟩ d_X_count_129 (fun r u H locs hp hw1 => ?_)
    refine W.cs (cells' := 0) (slots' := 0) rfl rfl ?_
    replace hw : WW G A zs ([oX (ad 0) [.int (nI n), .int (nI room), .int (nI Sx), .int (nI Kx), .ref (ad 17), .int (nI rs.length), .ref (ad 1), .ref (ad 2), .int (nI ps.length), .ref (qa 1), .ref (qa 2), .ref (qa 3), .ref (qa 4), .ref (qa 5), .ref (qa 6), .int (nI E.length), .int (nI S.length), .ref (qa 7), .int (boF ov E.length), .int (fuF ov), .int (nI md), .int (nI ag), .ref (ad 18), .ref (ad 10), .ref (ad 13), .ref (ad 16), zv 2], aZ G (ad 1) 64 fb, aI G (ad 2) 96 fn, aJ G (qa 1) (64 * 2 ^ j) fm, aI G (qa 2) (64 * 2 ^ j) (fs 2), aI G (qa 3) (64 * 2 ^ j) (fs 3), aI G (qa 4) (64 * 2 ^ j) (fs 4), aI G (qa 5) (64 * 2 ^ j) (fs 5), aI G (qa 6) (64 * 2 ^ j) (fs 6), aI G (qa 7) (2 ^ (8 + j)) (fs 7), oW (ad 10) [.ref (ad 11), .ref (ad 12), zv 0], aI G (ad 11) 4 (js 1), aI G (ad 12) 8 (js 2), oW (ad 13) [.ref (ad 14), .ref (ad 15), zv 1], aI G (ad 14) 4 (js 3), aI G (ad 15) 8 (js 4), aI G (ad 16) 4 (js 0), aR G (ad 17) 40 rr, oW (ad 18) [.ref (ad 19), .ref (ad 20), zv 3], aI G (ad 19) 4 (js 5), aI G (ad 20) 8 (js 6)] ++ rp) H locs := hw1
    exact r_ret hQ (r_iret () hx hb hr hlk hw (by unfold cntA; rw [if_neg sw_1_0, if_neg sw_1_1, if_neg sw_1_2, if_neg sw_1_3, if_neg sw_1_4, if_neg sw_1_5, if_neg sw_1_6, if_neg sw_1_7, if_neg sw_1_8, if_neg sw_1_9, if_pos sw_1_10]; exact hp) (by omega) (by omega) d_X_count_132)
  refine lv_tableOut (tgt := 133) hx hb d_X_count_1 (sw_out11 (fun j hj => by match j, hj with | 0, _ => exact sw_1_0 | 1, _ => exact sw_1_1 | 2, _ => exact sw_1_2 | 3, _ => exact sw_1_3 | 4, _ => exact sw_1_4 | 5, _ => exact sw_1_5 | 6, _ => exact sw_1_6 | 7, _ => exact sw_1_7 | 8, _ => exact sw_1_8 | 9, _ => exact sw_1_9 | 10, _ => exact sw_1_10)) (by decide) ?_
  refine lv_iconst (v := -1) hx hb d_X_count_133 (by decide) ?_
  exact r_ret hQ (r_iret () hx hb hr hlk hw (by unfold cntA; rw [if_neg sw_1_0, if_neg sw_1_1, if_neg sw_1_2, if_neg sw_1_3, if_neg sw_1_4, if_neg sw_1_5, if_neg sw_1_6, if_neg sw_1_7, if_neg sw_1_8, if_neg sw_1_9, if_neg sw_1_10]) (by omega) (by omega) d_X_count_134)
