theorem drop_step {f g : Nat → Int32} {k i : Nat} (hg : ∀ j, g j = if k ≤ j ∧ j < i then f (j + 1) else f j) (hk : k ≤ i) : ∀ j, upd g i (g (i + 1)) j = if k ≤ j ∧ j < i + 1 then f (j + 1) else f j := by
  intro j
  unfold upd
  by_cases he : j = i
  · rw [if_pos he, hg (i + 1), if_neg (by omega), if_pos (by omega), he]
  · rw [if_neg he, hg j]
    by_cases h : k ≤ j ∧ j < i
    · rw [if_pos h, if_pos (by omega)]
    · rw [if_neg h, if_neg (by omega)]
theorem drop_fin {f g : Nat → Int32} {k i : Nat} {cs : List Nat} (hk : k < cs.length) (hf : Cds f 0 cs) (hg : ∀ j, g j = if k ≤ j ∧ j < i then f (j + 1) else f j) (h1 : i ≤ cs.length - 1) (h2 : cs.length - 1 ≤ i) : Cds g 0 (cs.eraseIdx k) := by
  intro j hj
  rw [List.length_eraseIdx, if_pos hk] at hj
  rw [Nat.zero_add, hg j, List.getD_eq_getElem?_getD, List.getElem?_eraseIdx]
  by_cases h : j < k
  · rw [if_neg (by omega), if_pos h, ← List.getD_eq_getElem?_getD]
    simpa using hf j (by omega)
  · rw [if_pos (by omega), if_neg h, ← List.getD_eq_getElem?_getD]
    simpa using hf (j + 1) (by omega)
theorem turn_st {f : Nat → Int32} {π : List Nat} {w : Wh} {n k : Nat} (hp : Pm n π) (hk : k < 4) (h : ∀ i, i < k → f (π.getD i 0) = nI (dg w i)) : ∀ i, i < k + 1 → upd f (π.getD k 0) (nI (dg w k)) (π.getD i 0) = nI (dg w i) := by
  intro i hi
  unfold upd
  by_cases he : i = k
  · rw [if_pos (by rw [he]), he]
  · rw [if_neg]
    · exact h i (by omega)
    · intro z
      have h1 := (hp.2.1 i (by omega)).2
      have h2 := (hp.2.1 k hk).2
      rw [z, h2] at h1
      exact he h1.symm
theorem turn_fin {f g : Nat → Int32} {π : List Nat} {w : Wh} {n k j : Nat} (hp : Pm n π) (h1 : ∀ i, i < j → f (π.getD i 0) = nI (dg w i)) (h2 : Cds g 0 (tcs π w.2 k)) (hj : j = 4) (hk : k = w.2.length) : Sts f (trn π w) ∧ Cds g 0 (trn π w).2 := by
  subst hj; subst hk
  refine ⟨fun i hi => ?_, by rw [← tcs_all]; exact h2⟩
  obtain ⟨a, b⟩ := hp.2.2.1 i hi
  rw [trn_st hp hi, ← h1 _ a, b]
set_option maxHeartbeats 4000000 in
set_option maxRecDepth 100000 in
theorem c_W_become (zl : Launch) (G : GG) (h0 qs qc h1 qs1 qc1 n1 : Nat) (v0 : Value) (f g f1 g1 : Nat → Int32) : Ctr (S := Unit) vV zl y_W_become b_W_become 2 (Option.none : Option Jvm.ClassFile.FieldType) 1 0 0 G [.ref h0, .ref h1] ([oW h0 [.ref qs, .ref qc, v0], aI G qs 4 f, aI G qc 8 g, oW h1 [.ref qs1, .ref qc1, .int (nI n1)], aI G qs1 4 f1, aI G qc1 8 g1]) (fun _ _ => True) (fun _ => [oW h0 [.ref qs, .ref qc, .int (nI n1)], aI G qs 4 (va_cpy f1 f 0 0 4), aI G qc 8 (va_cpy g1 g 0 0 8), oW h1 [.ref qs1, .ref qc1, .int (nI n1)], aI G qs1 4 f1, aI G qc1 8 g1]) := by
  refine Ctr.start (by decide) (Nat.le_of_ble_eq_true rfl) ?_
  intro zp ze zs zm below meth zc A ls C0 hin hK hA hl hw
  obtain ⟨hx, hb, hr, hlk, hml, hown, hts⟩ := C0
  obtain ⟨R, hRR⟩ : ∃ R : Room, R = rmL 1 0 0 := ⟨_, rfl⟩
  have hRf : R.frames = 1 := by rw [hRR]
  have hRl : R.locals = 64 * 1 := by rw [hRR]
  have hRc : R.cells = 0 := by rw [hRR]
  have hRs : R.slots = 0 := by rw [hRR]
  rw [← hRR]; clear hRR
  generalize hQ : MQ below _ _ zs _ _ A = Q
  generalize hAr : List.toArray _ = args at hts hQ ⊢
  replace hl : lv_has ls 2 [(0, .ref h0), (1, .ref h1)] := hl
  obtain ⟨H, eH⟩ : ∃ H : Heap, H = zs.heap := ⟨_, rfl⟩
  obtain ⟨locs, eL⟩ : ∃ l0 : List Loc, l0 = [] := ⟨_, rfl⟩
  rw [← eH, ← eL] at hw ⊢; clear eH eL
  refine lv_aload_n hx hb d_W_become_0 rfl (lv_at hl 1 rfl) ?_
  refine g_W_9 hx hb hts hown hK hw 3 rfl rfl d_W_become_1 ?_
  refine lv_iconst (v := nI 0) hx hb d_W_become_4 rfl ?_
  refine lv_aload_n hx hb d_W_become_5 rfl (lv_at hl 0 rfl) ?_
  refine g_W_9 hx hb hts hown hK hw 0 rfl rfl d_W_become_6 ?_
  refine lv_iconst (v := nI 0) hx hb d_W_become_9 rfl ?_
  refine lv_iconst (v := nI 4) hx hb d_W_become_10 rfl ?_
  refine r_copyI hx hb (by rw [hml]; exact hl.1.symm) hts hown tm_221 tm_157 tm_156 hK hw 4 1 rfl rfl (sp := 0) (dp := 0) (n := 4) (by omega) (by omega) (by omega) (by omega) (by omega) (by rw [hRl]; exact Nat.le_of_ble_eq_true rfl) d_W_become_11 (fun H locs hw1 => ?_)
  replace hw : WW G A zs ([oW h0 [.ref qs, .ref qc, v0], aI G qs 4 (va_cpy f1 f 0 0 4), aI G qc 8 g, oW h1 [.ref qs1, .ref qc1, .int (nI n1)], aI G qs1 4 f1, aI G qc1 8 g1]) H locs := hw1
  refine lv_aload_n hx hb d_W_become_14 rfl (lv_at hl 1 rfl) ?_
  refine g_W_15 hx hb hts hown hK hw 3 rfl rfl d_W_become_15 ?_
  refine lv_iconst (v := nI 0) hx hb d_W_become_18 rfl ?_
  refine lv_aload_n hx hb d_W_become_19 rfl (lv_at hl 0 rfl) ?_
  refine g_W_15 hx hb hts hown hK hw 0 rfl rfl d_W_become_20 ?_
  refine lv_iconst (v := nI 0) hx hb d_W_become_23 rfl ?_
  refine lv_bipush (v := nI 8) hx hb d_W_become_24 (by decide) ?_
  refine r_copyI hx hb (by rw [hml]; exact hl.1.symm) hts hown tm_221 tm_157 tm_156 hK hw 5 2 rfl rfl (sp := 0) (dp := 0) (n := 8) (by omega) (by omega) (by omega) (by omega) (by omega) (by rw [hRl]; exact Nat.le_of_ble_eq_true rfl) d_W_become_26 (fun H locs hw1 => ?_)
  replace hw : WW G A zs ([oW h0 [.ref qs, .ref qc, v0], aI G qs 4 (va_cpy f1 f 0 0 4), aI G qc 8 (va_cpy g1 g 0 0 8), oW h1 [.ref qs1, .ref qc1, .int (nI n1)], aI G qs1 4 f1, aI G qc1 8 g1]) H locs := hw1
  refine lv_aload_n hx hb d_W_become_29 rfl (lv_at hl 0 rfl) ?_
  refine lv_aload_n hx hb d_W_become_30 rfl (lv_at hl 1 rfl) ?_
  refine g_W_24 hx hb hts hown hK hw 3 rfl rfl d_W_become_31 ?_
  refine p_W_24 hx hb hts hown hK hw 0 rfl (Nat.le_of_ble_eq_true rfl) d_W_become_34 (fun H locs hw1 => ?_)
  replace hw : WW G A zs ([oW h0 [.ref qs, .ref qc, .int (nI n1)], aI G qs 4 (va_cpy f1 f 0 0 4), aI G qc 8 (va_cpy g1 g 0 0 8), oW h1 [.ref qs1, .ref qc1, .int (nI n1)], aI G qs1 4 f1, aI G qc1 8 g1]) H locs := hw1
  exact r_ret hQ (r_vret () hx hb hr hlk hw trivial (by omega) (by omega) d_W_become_37)
set_option maxHeartbeats 4000000 in
set_option maxRecDepth 100000 in
theorem c_W_drop (zl : Launch) (G : GG) (h0 qs qc k : Nat) (f : Nat → Int32) (cs : List Nat) (hn : cs.length ≤ 7) (hk : k < cs.length) (hf : Cds f 0 cs) : Ctr (S := Nat → Int32) vV zl y_W_drop b_W_drop 3 (Option.none : Option Jvm.ClassFile.FieldType) 0 0 0 G [.ref h0, .int (nI k)] ([oW h0 [.ref qs, .ref qc, .int (nI cs.length)], aI G qc 8 f]) (fun _ g => Cds g 0 (cs.eraseIdx k)) (fun g => [oW h0 [.ref qs, .ref qc, .int (nI (cs.length - 1))], aI G qc 8 g]) := by
  refine Ctr.start (by decide) (Nat.le_of_ble_eq_true rfl) ?_
  intro zp ze zs zm below meth zc A ls C0 hin hK hA hl hw
  obtain ⟨hx, hb, hr, hlk, hml, hown, hts⟩ := C0
  obtain ⟨R, hRR⟩ : ∃ R : Room, R = rmL 0 0 0 := ⟨_, rfl⟩
  have hRf : R.frames = 0 := by rw [hRR]
  have hRl : R.locals = 64 * 0 := by rw [hRR]
  have hRc : R.cells = 0 := by rw [hRR]
  have hRs : R.slots = 0 := by rw [hRR]
  rw [← hRR]; clear hRR
  generalize hQ : MQ below _ _ zs _ _ A = Q
  generalize hAr : List.toArray _ = args at hts hQ ⊢
  replace hl : lv_has ls 3 [(0, .ref h0), (1, .int (nI k))] := hl
  obtain ⟨H, eH⟩ : ∃ H : Heap, H = zs.heap := ⟨_, rfl⟩
  obtain ⟨locs, eL⟩ : ∃ l0 : List Loc, l0 = [] := ⟨_, rfl⟩
  rw [← eH, ← eL] at hw ⊢; clear eH eL
  refine lv_aload_n hx hb d_W_drop_0 rfl (lv_at hl 0 rfl) ?_
  refine lv_dup hx hb d_W_drop_1 rfl ?_
  refine g_W_24 hx hb hts hown hK hw 0 rfl rfl d_W_drop_2 ?_
  refine lv_iconst (v := nI 1) hx hb d_W_drop_5 rfl ?_
  refine r_isubN hx hb (by omega) d_W_drop_6 ?_
  refine p_W_24 hx hb hts hown hK hw 0 rfl (Nat.le_of_ble_eq_true rfl) d_W_drop_7 (fun H locs hw1 => ?_)
  replace hw : WW G A zs ([oW h0 [.ref qs, .ref qc, .int (nI (cs.length - 1))], aI G qc 8 f]) H locs := hw1
  refine lv_iload_n hx hb d_W_drop_10 rfl (lv_at hl 1 rfl) ?_
  refine lv_istore_n (lv' := [(2, .int (nI k)), (0, .ref h0), (1, .int (nI k))]) hx hb d_W_drop_11 rfl hl (by decide) rfl (fun ls hl => ?_)
  have Lp12 : ∀ N_12 : Nat, ∀ (i : Nat) (g : Nat → Int32), (k ≤ i ∧ i ≤ cs.length - 1) → (∀ j, g j = if k ≤ j ∧ j < i then f (j + 1) else f j) → cs.length - 1 - i < N_12 → ∀ (H : Heap) (locs : List Loc) (ls : Array Slot), lv_has ls 3 [(0, .ref h0), (1, .int (nI k)), (2, .int (nI i))] → WW G A zs ([oW h0 [.ref qs, .ref qc, .int (nI (cs.length - 1))], aI G qc 8 g]) H locs → W zp zl ze R zs zm args below meth zc H locs 0 0 Q (F0 zm 12 ls []) := by
    intro N_12
    induction N_12 with
    | zero => intros; omega
    | succ N_12 ih_12 =>
      intro i g hi hg hN_12 H locs ls hl hw
      refine lv_iload_n hx hb d_W_drop_12 rfl (lv_at hl 2 rfl) ?_
      refine lv_aload_n hx hb d_W_drop_13 rfl (lv_at hl 0 rfl) ?_
      refine g_W_24 hx hb hts hown hK hw 0 rfl rfl d_W_drop_14 ?_
      refine r_icmp_ge (tgt := 40) hx hb (by omega) (by omega) d_W_drop_17 (by decide) (fun c_17 => ?_) (fun c_17 => ?_)
      · skip
        exact r_ret hQ (r_vret _ hx hb hr hlk hw (drop_fin hk hf hg hi.2 c_17) (by omega) (by omega) d_W_drop_40)
      · skip
        refine lv_aload_n hx hb d_W_drop_20 rfl (lv_at hl 0 rfl) ?_
        refine g_W_15 hx hb hts hown hK hw 0 rfl rfl d_W_drop_21 ?_
        refine lv_iload_n hx hb d_W_drop_24 rfl (lv_at hl 2 rfl) ?_
        refine lv_aload_n hx hb d_W_drop_25 rfl (lv_at hl 0 rfl) ?_
        refine g_W_15 hx hb hts hown hK hw 0 rfl rfl d_W_drop_26 ?_
        refine lv_iload_n hx hb d_W_drop_29 rfl (lv_at hl 2 rfl) ?_
        refine lv_iconst (v := nI 1) hx hb d_W_drop_30 rfl ?_
        refine r_iaddN hx hb d_W_drop_31 ?_
        refine r_iald hx hb hK hw 1 rfl (by omega) (by omega) d_W_drop_32 ?_
        refine r_iast hx hb hK hw 1 rfl (by omega) (by omega) d_W_drop_33 (fun H locs hw1 => ?_)
        replace hw : WW G A zs ([oW h0 [.ref qs, .ref qc, .int (nI (cs.length - 1))], aI G qc 8 (upd g i (g (i + 1)))]) H locs := hw1
        refine r_iincN (n := 1) (lv' := [(2, .int (nI (i + 1))), (0, .ref h0), (1, .int (nI k))]) hx hb d_W_drop_34 hl (k := 2) rfl (by decide) rfl (fun ls hl => ?_)
        refine lv_goto (tgt := 12) hx hb d_W_drop_37 (by decide) ?_
        exact ih_12 (i + 1) (upd g i (g (i + 1))) ⟨by omega, by omega⟩ (drop_step hg hi.1) (by omega) _ _ _ (lv_sub hl [1, 2, 0] rfl) hw
  exact Lp12 _ k f ⟨by omega, by omega⟩ (fun j => by rw [if_neg (by omega)]) (Nat.lt_succ_self _) _ _ _ (lv_sub hl [1, 2, 0] rfl) hw
set_option maxHeartbeats 4000000 in
set_option maxRecDepth 100000 in
theorem c_W_pack (zl : Launch) (G : GG) (h0 qs qc n : Nat) (f g : Nat → Int32) (w : Wh) (hV : Vl n w) (hf : Sts f w) (hg : Cds g 0 w.2) : Ctr (S := Unit) vJ zl y_W_pack b_W_pack 4 (Option.some Jvm.ClassFile.FieldType.long) 0 0 0 G [.ref h0] ([oW h0 [.ref qs, .ref qc, .int (nI w.2.length)], aI G qs 4 f, aI G qc 8 g]) (fun r _ => r = lN (pk w)) (fun _ => [oW h0 [.ref qs, .ref qc, .int (nI w.2.length)], aI G qs 4 f, aI G qc 8 g]) := by
  refine Ctr.start (by decide) (Nat.le_of_ble_eq_true rfl) ?_
  intro zp ze zs zm below meth zc A ls C0 hin hK hA hl hw
  obtain ⟨hx, hb, hr, hlk, hml, hown, hts⟩ := C0
  obtain ⟨R, hRR⟩ : ∃ R : Room, R = rmL 0 0 0 := ⟨_, rfl⟩
  have hRf : R.frames = 0 := by rw [hRR]
  have hRl : R.locals = 64 * 0 := by rw [hRR]
  have hRc : R.cells = 0 := by rw [hRR]
  have hRs : R.slots = 0 := by rw [hRR]
  rw [← hRR]; clear hRR
  generalize hQ : MQ below _ _ zs _ _ A = Q
  generalize hAr : List.toArray _ = args at hts hQ ⊢
  replace hl : lv_has ls 4 [(0, .ref h0)] := hl
  obtain ⟨H, eH⟩ : ∃ H : Heap, H = zs.heap := ⟨_, rfl⟩
  obtain ⟨locs, eL⟩ : ∃ l0 : List Loc, l0 = [] := ⟨_, rfl⟩
  rw [← eH, ← eL] at hw ⊢; clear eH eL
  refine lv_lconst (v := lN 0) hx hb d_W_pack_0 rfl ?_
  refine lv_lstore_n (lv' := [(1, .long (lN 0)), (0, .ref h0)]) hx hb d_W_pack_1 rfl hl (by decide) rfl (fun ls hl => ?_)
  refine lv_iconst (v := nI 0) hx hb d_W_pack_2 rfl ?_
  refine lv_istore_n (lv' := [(3, .int (nI 0)), (1, .long (lN 0)), (0, .ref h0)]) hx hb d_W_pack_3 rfl hl (by decide) rfl (fun ls hl => ?_)
  have Lp4 : ∀ N_4 : Nat, ∀ (k : Nat), (k ≤ 4) → 4 - k < N_4 → ∀ (H : Heap) (locs : List Loc) (ls : Array Slot), lv_has ls 4 [(0, .ref h0), (1, .long (lN (pkN w k))), (3, .int (nI k))] → WW G A zs ([oW h0 [.ref qs, .ref qc, .int (nI w.2.length)], aI G qs 4 f, aI G qc 8 g]) H locs → W zp zl ze R zs zm args below meth zc H locs 0 0 Q (F0 zm 4 ls []) := by
    intro N_4
    induction N_4 with
    | zero => intros; omega
    | succ N_4 ih_4 =>
      intro k hk hN_4 H locs ls hl hw
      refine lv_iload_n hx hb d_W_pack_4 rfl (lv_at hl 2 rfl) ?_
      refine lv_iconst (v := nI 4) hx hb d_W_pack_5 rfl ?_
      refine r_icmp_ge (tgt := 27) hx hb (by omega) (by omega) d_W_pack_6 (by decide) (fun c_6 => ?_) (fun c_6 => ?_)
      · skip
        refine lv_lload_n hx hb d_W_pack_27 rfl (lv_at hl 1 rfl) ?_
        refine lv_iconst (v := nI 3) hx hb d_W_pack_28 rfl ?_
        refine lv_lshl (v := lN ((pkN w k) * 2 ^ 3)) hx hb d_W_pack_29 (wb_shl _ (by omega)) ?_
        refine lv_aload_n hx hb d_W_pack_30 rfl (lv_at hl 0 rfl) ?_
        refine g_W_24 hx hb hts hown hK hw 0 rfl rfl d_W_pack_31 ?_
        have hb9 := hV.2.2.2.1
        refine lv_i2l (v := lN w.2.length) hx hb d_W_pack_34 (nI_l (by omega)) ?_
        refine lv_lor hx hb d_W_pack_35 ?_
        refine r_eqJ (show (lN ((pkN w k) * 2 ^ 3)) ||| (lN w.2.length) = lN (pkN w 5) from by rw [show k = 4 by omega]; exact pack_s hV (k := 4) (by decide)) ?_
        refine lv_lstore_n (lv' := [(1, .long (lN (pkN w 5))), (0, .ref h0), (3, .int (nI k))]) hx hb d_W_pack_36 rfl hl (by decide) rfl (fun ls hl => ?_)
        refine lv_iconst (v := nI 0) hx hb d_W_pack_37 rfl ?_
        refine lv_istore_n (lv' := [(3, .int (nI 0)), (1, .long (lN (pkN w 5))), (0, .ref h0)]) hx hb d_W_pack_38 rfl hl (by decide) rfl (fun ls hl => ?_)
        have Lp39 : ∀ N_39 : Nat, ∀ (k : Nat), (k ≤ 7) → 7 - k < N_39 → ∀ (H : Heap) (locs : List Loc) (ls : Array Slot), lv_has ls 4 [(0, .ref h0), (1, .long (lN (pkN w (5 + k)))), (3, .int (nI k))] → WW G A zs ([oW h0 [.ref qs, .ref qc, .int (nI w.2.length)], aI G qs 4 f, aI G qc 8 g]) H locs → W zp zl ze R zs zm args below meth zc H locs 0 0 Q (F0 zm 39 ls []) := by
          intro N_39
          induction N_39 with
          | zero => intros; omega
          | succ N_39 ih_39 =>
            intro k hk hN_39 H locs ls hl hw
            refine lv_iload_n hx hb d_W_pack_39 rfl (lv_at hl 2 rfl) ?_
            refine lv_bipush (v := nI 7) hx hb d_W_pack_40 (by decide) ?_
            refine r_icmp_ge (tgt := 76) hx hb (by omega) (by omega) d_W_pack_42 (by decide) (fun c_42 => ?_) (fun c_42 => ?_)
            · skip
              refine lv_lload_n hx hb d_W_pack_76 rfl (lv_at hl 1 rfl) ?_
              exact r_ret hQ (r_lret () hx hb hr hlk hw (by rw [show k = 7 by omega]; rfl) (by omega) (by omega) d_W_pack_77)
            · skip
              have Lp67 : ∀ (v : Nat), (v = dg w (5 + k)) → ∀ (H : Heap) (locs : List Loc) (ls : Array Slot), lv_has ls 4 [(0, .ref h0), (1, .long (lN (pkN w (5 + k)))), (3, .int (nI k))] → WW G A zs ([oW h0 [.ref qs, .ref qc, .int (nI w.2.length)], aI G qs 4 f, aI G qc 8 g]) H locs → W zp zl ze R zs zm args below meth zc H locs 0 0 Q (F0 zm 67 ls [.int (nI v), .long (lN (pkN w (5 + k) * 2 ^ 7))]) := by
                intro v hv H locs ls hl hw
                have hb9 := hV.dg128 (5 + k)
                refine lv_i2l (v := lN v) hx hb d_W_pack_67 (nI_l (by omega)) ?_
                refine lv_lor hx hb d_W_pack_68 ?_
                refine r_eqJ (show (lN (pkN w (5 + k) * 2 ^ 7)) ||| (lN v) = lN (pkN w (5 + k + 1)) from by rw [hv]; exact pack_c hV (by omega) (by omega)) ?_
                refine lv_lstore_n (lv' := [(1, .long (lN (pkN w (5 + k + 1)))), (0, .ref h0), (3, .int (nI k))]) hx hb d_W_pack_69 rfl hl (by decide) rfl (fun ls hl => ?_)
                refine r_iincN (n := 1) (lv' := [(3, .int (nI (k + 1))), (1, .long (lN (pkN w (5 + k + 1)))), (0, .ref h0)]) hx hb d_W_pack_70 hl (k := 2) rfl (by decide) rfl (fun ls hl => ?_)
                refine lv_goto (tgt := 39) hx hb d_W_pack_73 (by decide) ?_
                exact ih_39 (k + 1) (by omega) (by omega) _ _ _ (lv_sub hl [2, 1, 0] rfl) hw
              refine lv_lload_n hx hb d_W_pack_45 rfl (lv_at hl 1 rfl) ?_
              refine lv_bipush (v := nI 7) hx hb d_W_pack_46 (by decide) ?_
              refine lv_lshl (v := lN ((pkN w (5 + k)) * 2 ^ 7)) hx hb d_W_pack_48 (wb_shl _ (by omega)) ?_
              refine lv_iload_n hx hb d_W_pack_49 rfl (lv_at hl 2 rfl) ?_
              refine lv_aload_n hx hb d_W_pack_50 rfl (lv_at hl 0 rfl) ?_
              refine g_W_24 hx hb hts hown hK hw 0 rfl rfl d_W_pack_51 ?_
              have hb9 := hV.2.2.2.1
              refine r_icmp_ge (tgt := 66) hx hb (by omega) (by omega) d_W_pack_54 (by decide) (fun c_54 => ?_) (fun c_54 => ?_)
              · skip
                refine lv_iconst (v := nI 0) hx hb d_W_pack_66 rfl ?_
                exact Lp67 0 (ge_cs c_54).symm _ _ _ (lv_sub hl [0, 1, 2] rfl) hw
              · skip
                refine lv_aload_n hx hb d_W_pack_57 rfl (lv_at hl 0 rfl) ?_
                refine g_W_15 hx hb hts hown hK hw 0 rfl rfl d_W_pack_58 ?_
                refine lv_iload_n hx hb d_W_pack_61 rfl (lv_at hl 2 rfl) ?_
                refine r_iald hx hb hK hw 2 rfl (by omega) (by omega) d_W_pack_62 ?_
                refine r_eq (show g k = nI (dg w (5 + k)) from by rw [dg_cd]; simpa using hg k c_54) ?_
                refine lv_goto (tgt := 67) hx hb d_W_pack_63 (by decide) ?_
                exact Lp67 (dg w (5 + k)) rfl _ _ _ (lv_sub hl [0, 1, 2] rfl) hw
-- MISMATCH W_pack pc 39: pkN w (5 + 0) vs pkN w 5 (local 1)
        exact Lp39 _ 0 (by omega) (Nat.lt_succ_self _) _ _ _ (lv_sub hl [2, 1, 0] rfl) hw
      · skip
        refine lv_lload_n hx hb d_W_pack_9 rfl (lv_at hl 1 rfl) ?_
        refine lv_iconst (v := nI 3) hx hb d_W_pack_10 rfl ?_
        refine lv_lshl (v := lN ((pkN w k) * 2 ^ 3)) hx hb d_W_pack_11 (wb_shl _ (by omega)) ?_
        refine lv_aload_n hx hb d_W_pack_12 rfl (lv_at hl 0 rfl) ?_
        refine g_W_9 hx hb hts hown hK hw 0 rfl rfl d_W_pack_13 ?_
        refine lv_iload_n hx hb d_W_pack_16 rfl (lv_at hl 2 rfl) ?_
        have hb9 := hV.dg128 k
        refine r_iald hx hb hK hw 1 rfl (by omega) (by omega) d_W_pack_17 ?_
        refine r_eq (show f k = nI (dg w k) from hf k c_6) ?_
        refine lv_i2l (v := lN (dg w k)) hx hb d_W_pack_18 (nI_l (by omega)) ?_
        refine lv_lor hx hb d_W_pack_19 ?_
        refine r_eqJ (show (lN ((pkN w k) * 2 ^ 3)) ||| (lN (dg w k)) = lN (pkN w (k + 1)) from pack_s hV (by omega)) ?_
        refine lv_lstore_n (lv' := [(1, .long (lN (pkN w (k + 1)))), (0, .ref h0), (3, .int (nI k))]) hx hb d_W_pack_20 rfl hl (by decide) rfl (fun ls hl => ?_)
        refine r_iincN (n := 1) (lv' := [(3, .int (nI (k + 1))), (1, .long (lN (pkN w (k + 1)))), (0, .ref h0)]) hx hb d_W_pack_21 hl (k := 2) rfl (by decide) rfl (fun ls hl => ?_)
        refine lv_goto (tgt := 4) hx hb d_W_pack_24 (by decide) ?_
        exact ih_4 (k + 1) (by omega) (by omega) _ _ _ (lv_sub hl [2, 1, 0] rfl) hw
-- MISMATCH W_pack pc 4: pkN w 0 vs 0 (local 1)
  exact Lp4 _ 0 (by omega) (Nat.lt_succ_self _) _ _ _ (lv_sub hl [2, 1, 0] rfl) hw
set_option maxHeartbeats 4000000 in
set_option maxRecDepth 100000 in
theorem c_W_unpack (zl : Launch) (G : GG) (h0 qs qc n : Nat) (v0 : Value) (f g : Nat → Int32) (w : Wh) (hV : Vl n w) : Ctr (S := (Nat → Int32) × (Nat → Int32)) vV zl y_W_unpack b_W_unpack 4 (Option.none : Option Jvm.ClassFile.FieldType) 0 0 0 G [.ref h0, .long (lN (pk w))] ([oW h0 [.ref qs, .ref qc, v0], aI G qs 4 f, aI G qc 8 g]) (fun _ u => Sts u.1 w ∧ Cds u.2 0 w.2) (fun u => [oW h0 [.ref qs, .ref qc, .int (nI w.2.length)], aI G qs 4 u.1, aI G qc 8 u.2]) := by
  refine Ctr.start (by decide) (Nat.le_of_ble_eq_true rfl) ?_
  intro zp ze zs zm below meth zc A ls C0 hin hK hA hl hw
  obtain ⟨hx, hb, hr, hlk, hml, hown, hts⟩ := C0
  obtain ⟨R, hRR⟩ : ∃ R : Room, R = rmL 0 0 0 := ⟨_, rfl⟩
  have hRf : R.frames = 0 := by rw [hRR]
  have hRl : R.locals = 64 * 0 := by rw [hRR]
  have hRc : R.cells = 0 := by rw [hRR]
  have hRs : R.slots = 0 := by rw [hRR]
  rw [← hRR]; clear hRR
  generalize hQ : MQ below _ _ zs _ _ A = Q
  generalize hAr : List.toArray _ = args at hts hQ ⊢
  replace hl : lv_has ls 4 [(0, .ref h0), (1, .long (lN (pk w)))] := hl
  obtain ⟨H, eH⟩ : ∃ H : Heap, H = zs.heap := ⟨_, rfl⟩
  obtain ⟨locs, eL⟩ : ∃ l0 : List Loc, l0 = [] := ⟨_, rfl⟩
  rw [← eH, ← eL] at hw ⊢; clear eH eL
  have hb9 := pk_lt64 hV
  refine lv_iconst (v := nI 0) hx hb d_W_unpack_0 rfl ?_
  refine lv_istore_n (lv' := [(3, .int (nI 0)), (0, .ref h0), (1, .long (lN (pk w)))]) hx hb d_W_unpack_1 rfl hl (by decide) rfl (fun ls hl => ?_)
  have Lp2 : ∀ N_2 : Nat, ∀ (k : Nat) (f : Nat → Int32), (k ≤ 4) → (∀ i, i < k → f i = nI (dg w i)) → 4 - k < N_2 → ∀ (H : Heap) (locs : List Loc) (ls : Array Slot), lv_has ls 4 [(0, .ref h0), (1, .long (lN (pk w))), (3, .int (nI k))] → WW G A zs ([oW h0 [.ref qs, .ref qc, v0], aI G qs 4 f, aI G qc 8 g]) H locs → W zp zl ze R zs zm args below meth zc H locs 0 0 Q (F0 zm 2 ls []) := by
    intro N_2
    induction N_2 with
    | zero => intros; omega
    | succ N_2 ih_2 =>
      intro k f hk hf hN_2 H locs ls hl hw
      refine lv_iload_n hx hb d_W_unpack_2 rfl (lv_at hl 2 rfl) ?_
      refine lv_iconst (v := nI 4) hx hb d_W_unpack_3 rfl ?_
      refine r_icmp_ge (tgt := 31) hx hb (by omega) (by omega) d_W_unpack_4 (by decide) (fun c_4 => ?_) (fun c_4 => ?_)
      · skip
        refine lv_aload_n hx hb d_W_unpack_31 rfl (lv_at hl 0 rfl) ?_
        refine lv_lload_n hx hb d_W_unpack_32 rfl (lv_at hl 1 rfl) ?_
        refine lv_bipush (v := nI 49) hx hb d_W_unpack_33 (by decide) ?_
        refine lv_lushr (v := lN ((pk w) / 2 ^ 49)) hx hb d_W_unpack_35 (wb_shr (by omega) (by omega)) ?_
        refine lv_l2i (v := nI ((pk w) / 2 ^ 49)) hx hb d_W_unpack_36 (lN_i _) ?_
        refine lv_bipush (v := nI 7) hx hb d_W_unpack_37 (by decide) ?_
        refine r_iandN hx hb d_W_unpack_39 ?_
        refine r_eq (show nI (((pk w) / 2 ^ 49) &&& 7) = nI w.2.length from congrArg nI (unp_n hV)) ?_
        refine p_W_24 hx hb hts hown hK hw 0 rfl (Nat.le_of_ble_eq_true rfl) d_W_unpack_40 (fun H locs hw1 => ?_)
        replace hw : WW G A zs ([oW h0 [.ref qs, .ref qc, .int (nI w.2.length)], aI G qs 4 f, aI G qc 8 g]) H locs := hw1
        refine lv_iconst (v := nI 0) hx hb d_W_unpack_43 rfl ?_
        refine lv_istore_n (lv' := [(3, .int (nI 0)), (0, .ref h0), (1, .long (lN (pk w)))]) hx hb d_W_unpack_44 rfl hl (by decide) rfl (fun ls hl => ?_)
        have Lp45 : ∀ N_45 : Nat, ∀ (k : Nat) (g : Nat → Int32), (k ≤ 7) → (∀ i, i < k → g i = nI (dg w (5 + i))) → 7 - k < N_45 → ∀ (H : Heap) (locs : List Loc) (ls : Array Slot), lv_has ls 4 [(0, .ref h0), (1, .long (lN (pk w))), (3, .int (nI k))] → WW G A zs ([oW h0 [.ref qs, .ref qc, .int (nI w.2.length)], aI G qs 4 f, aI G qc 8 g]) H locs → W zp zl ze R zs zm args below meth zc H locs 0 0 Q (F0 zm 45 ls []) := by
          intro N_45
          induction N_45 with
          | zero => intros; omega
          | succ N_45 ih_45 =>
            intro k g hk2 hg hN_45 H locs ls hl hw
            refine lv_iload_n hx hb d_W_unpack_45 rfl (lv_at hl 2 rfl) ?_
            refine lv_bipush (v := nI 7) hx hb d_W_unpack_46 (by decide) ?_
            refine r_icmp_ge (tgt := 76) hx hb (by omega) (by omega) d_W_unpack_48 (by decide) (fun c_48 => ?_) (fun c_48 => ?_)
            · skip
              exact r_ret hQ (r_vret (f, g) hx hb hr hlk hw (⟨fun i hi => hf i (by omega), fun i hi => by have := hV.2.2.2.1; show g (0 + i) = _; rw [Nat.zero_add, hg i (by omega), dg_cd]⟩) (by omega) (by omega) d_W_unpack_76)
            · skip
              refine lv_aload_n hx hb d_W_unpack_51 rfl (lv_at hl 0 rfl) ?_
              refine g_W_15 hx hb hts hown hK hw 0 rfl rfl d_W_unpack_52 ?_
              refine lv_iload_n hx hb d_W_unpack_55 rfl (lv_at hl 2 rfl) ?_
              refine lv_lload_n hx hb d_W_unpack_56 rfl (lv_at hl 1 rfl) ?_
              refine lv_bipush (v := nI 42) hx hb d_W_unpack_57 (by decide) ?_
              refine lv_bipush (v := nI 7) hx hb d_W_unpack_59 (by decide) ?_
              refine lv_iload_n hx hb d_W_unpack_61 rfl (lv_at hl 2 rfl) ?_
              refine r_imulN hx hb d_W_unpack_62 ?_
              refine r_isubN hx hb (by omega) d_W_unpack_63 ?_
              refine lv_lushr (v := lN ((pk w) / 2 ^ (42 - (7 * k)))) hx hb d_W_unpack_64 (wb_shr (by omega) (by omega)) ?_
              refine lv_l2i (v := nI ((pk w) / 2 ^ (42 - (7 * k)))) hx hb d_W_unpack_65 (lN_i _) ?_
              refine lv_bipush (v := nI 127) hx hb d_W_unpack_66 (by decide) ?_
              refine r_iandN hx hb d_W_unpack_68 ?_
              refine r_eq (show nI (((pk w) / 2 ^ (42 - (7 * k))) &&& 127) = nI (dg w (5 + k)) from congrArg nI (unp_c hV c_48)) ?_
              refine r_iast hx hb hK hw 2 rfl (by omega) (by omega) d_W_unpack_69 (fun H locs hw1 => ?_)
              replace hw : WW G A zs ([oW h0 [.ref qs, .ref qc, .int (nI w.2.length)], aI G qs 4 f, aI G qc 8 (upd g k (nI (dg w (5 + k))))]) H locs := hw1
              refine r_iincN (n := 1) (lv' := [(3, .int (nI (k + 1))), (0, .ref h0), (1, .long (lN (pk w)))]) hx hb d_W_unpack_70 hl (k := 2) rfl (by decide) rfl (fun ls hl => ?_)
              refine lv_goto (tgt := 45) hx hb d_W_unpack_73 (by decide) ?_
              exact ih_45 (k + 1) (upd g k (nI (dg w (5 + k)))) (by omega) (upd_lt (g := fun i => nI (dg w (5 + i))) hg rfl) (by omega) _ _ _ (lv_sub hl [1, 2, 0] rfl) hw
        exact Lp45 _ 0 g (by omega) (fun i hi => absurd hi (Nat.not_lt_zero _)) (Nat.lt_succ_self _) _ _ _ (lv_sub hl [1, 2, 0] rfl) hw
      · skip
        refine lv_aload_n hx hb d_W_unpack_7 rfl (lv_at hl 0 rfl) ?_
        refine g_W_9 hx hb hts hown hK hw 0 rfl rfl d_W_unpack_8 ?_
        refine lv_iload_n hx hb d_W_unpack_11 rfl (lv_at hl 2 rfl) ?_
        refine lv_lload_n hx hb d_W_unpack_12 rfl (lv_at hl 1 rfl) ?_
        refine lv_bipush (v := nI 61) hx hb d_W_unpack_13 (by decide) ?_
        refine lv_iconst (v := nI 3) hx hb d_W_unpack_15 rfl ?_
        refine lv_iload_n hx hb d_W_unpack_16 rfl (lv_at hl 2 rfl) ?_
        refine r_imulN hx hb d_W_unpack_17 ?_
        refine r_isubN hx hb (by omega) d_W_unpack_18 ?_
        refine lv_lushr (v := lN ((pk w) / 2 ^ (61 - (3 * k)))) hx hb d_W_unpack_19 (wb_shr (by omega) (by omega)) ?_
        refine lv_l2i (v := nI ((pk w) / 2 ^ (61 - (3 * k)))) hx hb d_W_unpack_20 (lN_i _) ?_
        refine lv_bipush (v := nI 7) hx hb d_W_unpack_21 (by decide) ?_
        refine r_iandN hx hb d_W_unpack_23 ?_
        refine r_eq (show nI (((pk w) / 2 ^ (61 - (3 * k))) &&& 7) = nI (dg w k) from congrArg nI (unp_s hV c_4)) ?_
        refine r_iast hx hb hK hw 1 rfl (by omega) (by omega) d_W_unpack_24 (fun H locs hw1 => ?_)
        replace hw : WW G A zs ([oW h0 [.ref qs, .ref qc, v0], aI G qs 4 (upd f k (nI (dg w k))), aI G qc 8 g]) H locs := hw1
        refine r_iincN (n := 1) (lv' := [(3, .int (nI (k + 1))), (0, .ref h0), (1, .long (lN (pk w)))]) hx hb d_W_unpack_25 hl (k := 2) rfl (by decide) rfl (fun ls hl => ?_)
        refine lv_goto (tgt := 2) hx hb d_W_unpack_28 (by decide) ?_
        exact ih_2 (k + 1) (upd f k (nI (dg w k))) (by omega) (upd_lt hf rfl) (by omega) _ _ _ (lv_sub hl [1, 2, 0] rfl) hw
  exact Lp2 _ 0 f (by omega) (fun i hi => absurd hi (Nat.not_lt_zero _)) (Nat.lt_succ_self _) _ _ _ (lv_sub hl [1, 2, 0] rfl) hw
set_option maxHeartbeats 4000000 in
set_option maxRecDepth 100000 in
theorem c_W_turn (zl : Launch) (G : GG) (h0 qs qc h1 qs1 qc1 qn n : Nat) (v1 : Value) (f g f1 g1 p : Nat → Int32) (w : Wh) (π : List Nat) (hV : Vl n w) (hn4 : n ≤ 4) (hP : Pm n π) (hf : Sts f w) (hg : Cds g 0 w.2) (hp0 : ∀ i, i < 4 → p i = nI (π.getD i 0)) : Ctr (S := (Nat → Int32) × (Nat → Int32)) vV zl y_W_turn b_W_turn 5 (Option.none : Option Jvm.ClassFile.FieldType) 1 0 0 G [.ref h0, .ref h1, .ref qn] ([oW h0 [.ref qs, .ref qc, .int (nI w.2.length)], aI G qs 4 f, aI G qc 8 g, oW h1 [.ref qs1, .ref qc1, v1], aI G qs1 4 f1, aI G qc1 8 g1, aI G qn 4 p]) (fun _ u => Sts u.1 (trn π w) ∧ Cds u.2 0 (trn π w).2) (fun u => [oW h0 [.ref qs, .ref qc, .int (nI w.2.length)], aI G qs 4 f, aI G qc 8 g, oW h1 [.ref qs1, .ref qc1, .int (nI (trn π w).2.length)], aI G qs1 4 u.1, aI G qc1 8 u.2, aI G qn 4 p]) := by
  refine Ctr.start (by decide) (Nat.le_of_ble_eq_true rfl) ?_
  intro zp ze zs zm below meth zc A ls C0 hin hK hA hl hw
  obtain ⟨hx, hb, hr, hlk, hml, hown, hts⟩ := C0
  obtain ⟨R, hRR⟩ : ∃ R : Room, R = rmL 1 0 0 := ⟨_, rfl⟩
  have hRf : R.frames = 1 := by rw [hRR]
  have hRl : R.locals = 64 * 1 := by rw [hRR]
  have hRc : R.cells = 0 := by rw [hRR]
  have hRs : R.slots = 0 := by rw [hRR]
  rw [← hRR]; clear hRR
  generalize hQ : MQ below _ _ zs _ _ A = Q
  generalize hAr : List.toArray _ = args at hts hQ ⊢
  replace hl : lv_has ls 5 [(0, .ref h0), (1, .ref h1), (2, .ref qn)] := hl
  obtain ⟨H, eH⟩ : ∃ H : Heap, H = zs.heap := ⟨_, rfl⟩
  obtain ⟨locs, eL⟩ : ∃ l0 : List Loc, l0 = [] := ⟨_, rfl⟩
  rw [← eH, ← eL] at hw ⊢; clear eH eL
  refine lv_iconst (v := nI 0) hx hb d_W_turn_0 rfl ?_
  refine lv_istore_n (lv' := [(3, .int (nI 0)), (0, .ref h0), (1, .ref h1), (2, .ref qn)]) hx hb d_W_turn_1 rfl hl (by decide) rfl (fun ls hl => ?_)
  have Lp2 : ∀ N_2 : Nat, ∀ (k : Nat) (f1 : Nat → Int32), (k ≤ 4) → (∀ i, i < k → f1 (π.getD i 0) = nI (dg w i)) → 4 - k < N_2 → ∀ (H : Heap) (locs : List Loc) (ls : Array Slot), lv_has ls 5 [(0, .ref h0), (1, .ref h1), (2, .ref qn), (3, .int (nI k))] → WW G A zs ([oW h0 [.ref qs, .ref qc, .int (nI w.2.length)], aI G qs 4 f, aI G qc 8 g, oW h1 [.ref qs1, .ref qc1, v1], aI G qs1 4 f1, aI G qc1 8 g1, aI G qn 4 p]) H locs → W zp zl ze R zs zm args below meth zc H locs 0 0 Q (F0 zm 2 ls []) := by
    intro N_2
    induction N_2 with
    | zero => intros; omega
    | succ N_2 ih_2 =>
      intro k f1 hk hst hN_2 H locs ls hl hw
      refine lv_iload_n hx hb d_W_turn_2 rfl (lv_at hl 3 rfl) ?_
      refine lv_iconst (v := nI 4) hx hb d_W_turn_3 rfl ?_
      refine r_icmp_ge (tgt := 27) hx hb (by omega) (by omega) d_W_turn_4 (by decide) (fun c_4 => ?_) (fun c_4 => ?_)
      · skip
        refine lv_aload_n hx hb d_W_turn_27 rfl (lv_at hl 1 rfl) ?_
        refine lv_iconst (v := nI 0) hx hb d_W_turn_28 rfl ?_
        refine p_W_24 hx hb hts hown hK hw 3 rfl (Nat.le_of_ble_eq_true rfl) d_W_turn_29 (fun H locs hw1 => ?_)
        replace hw : WW G A zs ([oW h0 [.ref qs, .ref qc, .int (nI w.2.length)], aI G qs 4 f, aI G qc 8 g, oW h1 [.ref qs1, .ref qc1, .int (nI 0)], aI G qs1 4 f1, aI G qc1 8 g1, aI G qn 4 p]) H locs := hw1
        refine lv_iconst (v := nI 0) hx hb d_W_turn_32 rfl ?_
        refine lv_istore_n (lv' := [(3, .int (nI 0)), (0, .ref h0), (1, .ref h1), (2, .ref qn)]) hx hb d_W_turn_33 rfl hl (by decide) rfl (fun ls hl => ?_)
        have Lp34 : ∀ N_34 : Nat, ∀ (k : Nat) (g1 : Nat → Int32), (k ≤ w.2.length) → (Cds g1 0 (tcs π w.2 k)) → w.2.length - k < N_34 → ∀ (H : Heap) (locs : List Loc) (ls : Array Slot), lv_has ls 5 [(0, .ref h0), (1, .ref h1), (2, .ref qn), (3, .int (nI k))] → WW G A zs ([oW h0 [.ref qs, .ref qc, .int (nI w.2.length)], aI G qs 4 f, aI G qc 8 g, oW h1 [.ref qs1, .ref qc1, .int (nI ((tcs π w.2 k).length))], aI G qs1 4 f1, aI G qc1 8 g1, aI G qn 4 p]) H locs → W zp zl ze R zs zm args below meth zc H locs 0 0 Q (F0 zm 34 ls []) := by
          intro N_34
          induction N_34 with
          | zero => intros; omega
          | succ N_34 ih_34 =>
            intro k g1 hk2 h2 hN_34 H locs ls hl hw
            refine lv_iload_n hx hb d_W_turn_34 rfl (lv_at hl 3 rfl) ?_
            refine lv_aload_n hx hb d_W_turn_35 rfl (lv_at hl 0 rfl) ?_
            refine g_W_24 hx hb hts hown hK hw 0 rfl rfl d_W_turn_36 ?_
            have hb0 := hV.2.2.2.1
            have hbt := tcs_len (π := π) hk2
            refine r_icmp_ge (tgt := 84) hx hb (by omega) (by omega) d_W_turn_39 (by decide) (fun c_39 => ?_) (fun c_39 => ?_)
            · skip
              rw [show (tcs π w.2 k).length = (trn π w).2.length by rw [hbt, trn_len]; omega] at hw
              exact r_ret hQ (r_vret (f1, g1) hx hb hr hlk hw (turn_fin hP hst h2 (by omega) (by omega)) (by omega) (by omega) d_W_turn_84)
            · skip
              have hb1 := hV.at c_39
              have hb2 := (hP.2.1 (w.2.getD k 0 / 4 % 4) (by omega)).1
              have hb3 := (hP.2.1 (w.2.getD k 0 % 4) (by omega)).1
              refine lv_aload_n hx hb d_W_turn_42 rfl (lv_at hl 0 rfl) ?_
              refine g_W_15 hx hb hts hown hK hw 0 rfl rfl d_W_turn_43 ?_
              refine lv_iload_n hx hb d_W_turn_46 rfl (lv_at hl 3 rfl) ?_
              refine r_iald hx hb hK hw 2 rfl (by omega) (by omega) d_W_turn_47 ?_
              refine r_eq (show g k = nI (w.2.getD k 0) from by simpa using hg k c_39) ?_
              refine lv_istore (lv' := [(4, .int (nI (w.2.getD k 0))), (0, .ref h0), (1, .ref h1), (2, .ref qn), (3, .int (nI k))]) hx hb d_W_turn_48 hl (by decide) rfl (fun ls hl => ?_)
              refine lv_aload_n hx hb d_W_turn_50 rfl (lv_at hl 2 rfl) ?_
              refine lv_iload hx hb d_W_turn_51 (lv_at hl 0 rfl) ?_
              refine lv_bipush (v := -16) hx hb d_W_turn_53 (by decide) ?_
              refine lv_iand hx hb d_W_turn_55 ?_
              refine r_eq (show (nI (w.2.getD k 0)) &&& (-16) = nI (w.2.getD k 0 / 16 * 16) from and16 _ hb1.1) ?_
              refine lv_aload_n hx hb d_W_turn_56 rfl (lv_at hl 3 rfl) ?_
              refine lv_iload hx hb d_W_turn_57 (lv_at hl 0 rfl) ?_
              refine lv_iconst (v := nI 2) hx hb d_W_turn_59 rfl ?_
              refine r_ishrN hx hb (k := 2) (by omega) (by omega) d_W_turn_60 ?_
              refine lv_iconst (v := nI 3) hx hb d_W_turn_61 rfl ?_
              refine r_iandN hx hb d_W_turn_62 ?_
              refine r_eq (show nI (((w.2.getD k 0) / 2 ^ 2) &&& 3) = nI (w.2.getD k 0 / 4 % 4) from congrArg nI (and3 _)) ?_
              refine r_iald hx hb hK hw 6 rfl (by omega) (by omega) d_W_turn_63 ?_
              refine r_eq (show p (w.2.getD k 0 / 4 % 4) = nI (π.getD (w.2.getD k 0 / 4 % 4) 0) from hp0 _ (by omega)) ?_
              refine lv_iconst (v := nI 2) hx hb d_W_turn_64 rfl ?_
              refine r_ishlN hx hb (k := 2) (by omega) (by omega) d_W_turn_65 ?_
              refine r_iorN hx hb d_W_turn_66 ?_
              refine lv_aload_n hx hb d_W_turn_67 rfl (lv_at hl 3 rfl) ?_
              refine lv_iload hx hb d_W_turn_68 (lv_at hl 0 rfl) ?_
              refine lv_iconst (v := nI 3) hx hb d_W_turn_70 rfl ?_
              refine r_iandN hx hb d_W_turn_71 ?_
              refine r_eq (show nI ((w.2.getD k 0) &&& 3) = nI (w.2.getD k 0 % 4) from congrArg nI (and3 _)) ?_
              refine r_iald hx hb hK hw 6 rfl (by omega) (by omega) d_W_turn_72 ?_
              refine r_eq (show p (w.2.getD k 0 % 4) = nI (π.getD (w.2.getD k 0 % 4) 0) from hp0 _ (by omega)) ?_
              refine r_iorN hx hb d_W_turn_73 ?_
              refine r_eq (show nI (((w.2.getD k 0 / 16 * 16) ||| ((π.getD (w.2.getD k 0 / 4 % 4) 0) * 2 ^ 2)) ||| (π.getD (w.2.getD k 0 % 4) 0)) = nI (tc π (w.2.getD k 0)) from congrArg nI (or16 _ hb1.1 _ hb2 _ hb3)) ?_
              refine xV_i (rest := []) (As := [.int (nI (tc π (w.2.getD k 0)))]) hx hb hml hown hts hK hA hw k_W_28 (c_W_add zl G h1 qs1 qc1 (tc π (w.2.getD k 0)) g1 (tcs π w.2 k) (fins_srt _) (by omega) (tcs_cb hP hV hn4 k) (tc_ok hP hb1 hn4).1 h2) [3, 5] rfl rfl (fun _ => Nat.le_of_ble_eq_true rfl) 0 rfl rfl rfl rfl hl.1 (Nat.le_of_ble_eq_true rfl) ⟨(by omega), (by omega)⟩ ⟨(by omega), (by omega)⟩ d_W_turn_74 (fun r g2 H locs hp hw1 => ?_)
              obtain ⟨rfl, hp⟩ := hp
              rw [← tcs_succ c_39] at hp
              rw [show (tcs π w.2 k).length + 1 = (tcs π w.2 (k + 1)).length by rw [hbt, tcs_len c_39]] at hw1
              refine W.cs (cells' := 0) (slots' := 0) rfl rfl ?_
              replace hw : WW G A zs ([oW h0 [.ref qs, .ref qc, .int (nI w.2.length)], aI G qs 4 f, aI G qc 8 g, oW h1 [.ref qs1, .ref qc1, .int (nI ((tcs π w.2 (k + 1)).length))], aI G qs1 4 f1, aI G qc1 8 g2, aI G qn 4 p]) H locs := hw1
              refine lv_pop hx hb d_W_turn_77 rfl ?_
              refine r_iincN (n := 1) (lv' := [(3, .int (nI (k + 1))), (4, .int (nI (w.2.getD k 0))), (0, .ref h0), (1, .ref h1), (2, .ref qn)]) hx hb d_W_turn_78 hl (k := 4) rfl (by decide) rfl (fun ls hl => ?_)
              refine lv_goto (tgt := 34) hx hb d_W_turn_81 (by decide) ?_
              exact ih_34 (k + 1) g2 (by omega) hp (by omega) _ _ _ (lv_sub hl [2, 3, 4, 0] rfl) hw
-- MISMATCH W_turn pc 34: (tcs π w.2 0).length vs 0 (field)
        exact Lp34 _ 0 g1 (by omega) (fun i hi => absurd hi (Nat.not_lt_zero _)) (Nat.lt_succ_self _) _ _ _ (lv_sub hl [1, 2, 3, 0] rfl) hw
      · skip
        refine lv_aload_n hx hb d_W_turn_7 rfl (lv_at hl 1 rfl) ?_
        refine g_W_9 hx hb hts hown hK hw 3 rfl rfl d_W_turn_8 ?_
        refine lv_aload_n hx hb d_W_turn_11 rfl (lv_at hl 2 rfl) ?_
        refine lv_iload_n hx hb d_W_turn_12 rfl (lv_at hl 3 rfl) ?_
        have hb9 := (hP.2.1 k c_4).1
        refine r_iald hx hb hK hw 6 rfl (by omega) (by omega) d_W_turn_13 ?_
        refine r_eq (show p k = nI (π.getD k 0) from hp0 k c_4) ?_
        refine lv_aload_n hx hb d_W_turn_14 rfl (lv_at hl 0 rfl) ?_
        refine g_W_9 hx hb hts hown hK hw 0 rfl rfl d_W_turn_15 ?_
        refine lv_iload_n hx hb d_W_turn_18 rfl (lv_at hl 3 rfl) ?_
        refine r_iald hx hb hK hw 1 rfl (by omega) (by omega) d_W_turn_19 ?_
        refine r_eq (show f k = nI (dg w k) from hf k c_4) ?_
        refine r_iast hx hb hK hw 4 rfl (by omega) (by omega) d_W_turn_20 (fun H locs hw1 => ?_)
        replace hw : WW G A zs ([oW h0 [.ref qs, .ref qc, .int (nI w.2.length)], aI G qs 4 f, aI G qc 8 g, oW h1 [.ref qs1, .ref qc1, v1], aI G qs1 4 (upd f1 (π.getD k 0) (nI (dg w k))), aI G qc1 8 g1, aI G qn 4 p]) H locs := hw1
        refine r_iincN (n := 1) (lv' := [(3, .int (nI (k + 1))), (0, .ref h0), (1, .ref h1), (2, .ref qn)]) hx hb d_W_turn_21 hl (k := 3) rfl (by decide) rfl (fun ls hl => ?_)
        refine lv_goto (tgt := 2) hx hb d_W_turn_24 (by decide) ?_
        exact ih_2 (k + 1) (upd f1 (π.getD k 0) (nI (dg w k))) (by omega) (turn_st hP (by omega) hst) (by omega) _ _ _ (lv_sub hl [1, 2, 3, 0] rfl) hw
  exact Lp2 _ 0 f1 (by omega) (fun i hi => absurd hi (Nat.not_lt_zero _)) (Nat.lt_succ_self _) _ _ _ (lv_sub hl [1, 2, 3, 0] rfl) hw
