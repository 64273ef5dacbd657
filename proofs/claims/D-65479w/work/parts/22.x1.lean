theorem getD_mem {ps : List (List Nat)} {k : Nat} (h : k < ps.length) : ps.getD k [] ∈ ps := by
  rw [List.getD_eq_getElem?_getD, List.getElem?_eq_getElem h]; exact List.getElem_mem h
theorem form_nm {ps : List (List Nat)} {fn fm : Nat → Int32} (h : ∀ k, k < ps.length → ∀ i, i < 4 → fn (4 * k + i) = nI ((ps.getD k []).getD i 0)) {k : Nat} (hk : k < ps.length) : ∀ i, i < 4 → va_cpy fn fm (4 * k) 0 4 i = nI ((ps.getD k []).getD i 0) := by
  intro i hi
  rw [pk_cpy_in (Nat.zero_le _) (by omega), Nat.sub_zero]
  exact h k hk i hi
theorem form_lt {a b : Nat} {r : Int32} (h : r = if a < b then -1 else if a = b then 0 else 1) (hr : ¬ 0 ≤ r) : a < b := by
  rw [h] at hr
  split at hr
  · assumption
  · split at hr
    · exact absurd (by decide) hr
    · exact absurd (by decide) hr
theorem form_eq {a b : Nat} {r : Int32} (h : r = if a < b then -1 else if a = b then 0 else 1) (hr : r = 0) : a = b := by
  rw [h] at hr
  split at hr
  · exact absurd hr (by decide)
  · split at hr
    · assumption
    · exact absurd hr (by decide)
theorem form_gt {a b : Nat} {r : Int32} (h : r = if a < b then -1 else if a = b then 0 else 1) (hr : 0 ≤ r) (h0 : ¬ r = 0) : b < a := by
  rw [h] at hr h0
  split at hr
  · exact absurd hr (by decide)
  · rename_i h1
    rw [if_neg h1] at h0
    split at h0
    · exact absurd rfl h0
    · omega
theorem form_fin {ps : List (List Nat)} {w b : Wh} {k sc : Nat} (h : FI ps w k b sc) (h0 : 0 < ps.length) (hk : k = ps.length) : lN (pk b) = lN (pk (frm ps w).1) ∧ sc = (frm ps w).2 := by
  rw [h.fin h0 hk]; exact ⟨rfl, rfl⟩
set_option maxHeartbeats 4000000 in
set_option maxRecDepth 100000 in
theorem c_Long_compare (zl : Launch) (G : GG) (x y : Int64) : Ctr (S := Unit) vI zl y_Long_compare b_Long_compare 4 (Option.some Jvm.ClassFile.FieldType.int) 0 0 0 G [.long x, .long y] ([]) (fun r _ => r = if x < y then -1 else if x = y then 0 else 1) (fun _ => []) := by
  refine Ctr.start (by decide) (Nat.le_of_ble_eq_true rfl) ?_
  intro zp ze zs zm below meth zc A ls C0 hin hK hA hl hw
  obtain ⟨hx, hb, hr, hlk, hml, hown, hts⟩ := C0
  obtain ⟨R, hRR⟩ : ∃ R : Room, R = rmL 0 0 0 := ⟨_, rfl⟩
  have hRf : R.frames = 0 := by rw [hRR]
  have hRl : R.locals = 64 * 0 := by rw [hRR]
  have hRc : R.cells = 0 := by rw [hRR]
  have hRs : R.slots = 0 := by rw [hRR]
  rw [← hRR]; clear hRR
  generalize hQ : MQ below _ _ zs _ _ A = Q
  generalize hAr : List.toArray _ = args at hts hQ ⊢
  replace hl : lv_has ls 4 [(0, .long x), (2, .long y)] := hl
  obtain ⟨H, eH⟩ : ∃ H : Heap, H = zs.heap := ⟨_, rfl⟩
  obtain ⟨locs, eL⟩ : ∃ l0 : List Loc, l0 = [] := ⟨_, rfl⟩
  rw [← eH, ← eL] at hw ⊢; clear eH eL
  refine lv_lload_n hx hb d_Long_compare_0 rfl (lv_at hl 0 rfl) ?_
  refine lv_lload_n hx hb d_Long_compare_1 rfl (lv_at hl 1 rfl) ?_
  refine W.lcmp hx hb d_Long_compare_2 ?_
  refine lv_if_ge (tgt := 10) hx hb d_Long_compare_3 (by decide) (fun c_3 => ?_) (fun c_3 => ?_)
  · skip
    refine lv_lload_n hx hb d_Long_compare_10 rfl (lv_at hl 0 rfl) ?_
    refine lv_lload_n hx hb d_Long_compare_11 rfl (lv_at hl 1 rfl) ?_
    refine W.lcmp hx hb d_Long_compare_12 ?_
    refine lv_if_ne (tgt := 20) hx hb d_Long_compare_13 (by decide) (fun c_13 => ?_) (fun c_13 => ?_)
    · skip
      refine lv_iconst (v := nI 1) hx hb d_Long_compare_20 rfl ?_
      exact r_ret hQ (r_iret () hx hb hr hlk hw (by have h13 : ¬ x = y := fun z => c_13 ((lg_cmp_eq x y).mpr z); have h3 : ¬ x < y := Int64.not_lt.mpr ((lg_cmp_ge x y).mp c_3); rw [if_neg h3, if_neg h13]; rfl) (by omega) (by omega) d_Long_compare_21)
    · skip
      refine lv_iconst (v := nI 0) hx hb d_Long_compare_16 rfl ?_
      refine lv_goto (tgt := 21) hx hb d_Long_compare_17 (by decide) ?_
      exact r_ret hQ (r_iret () hx hb hr hlk hw (by have h13 : x = y := (lg_cmp_eq x y).mp c_13; have h3 : ¬ x < y := Int64.not_lt.mpr ((lg_cmp_ge x y).mp c_3); rw [if_neg h3, if_pos h13]; rfl) (by omega) (by omega) d_Long_compare_21)
  · skip
    refine lv_iconst (v := -1) hx hb d_Long_compare_6 (by decide) ?_
    refine lv_goto (tgt := 21) hx hb d_Long_compare_7 (by decide) ?_
    exact r_ret hQ (r_iret () hx hb hr hlk hw (by rw [if_pos ((lg_cmp_lt _ _).mp (Int32.not_le.mp c_3))]) (by omega) (by omega) d_Long_compare_21)
set_option maxHeartbeats 4000000 in
set_option maxRecDepth 100000 in
theorem c_Long_compareUnsigned (zl : Launch) (G : GG) (a b : Nat) (ha : a < 18446744073709551616) (hb9 : b < 18446744073709551616) : Ctr (S := Unit) vI zl y_Long_compareUnsigned b_Long_compareUnsigned 4 (Option.some Jvm.ClassFile.FieldType.int) 1 0 0 G [.long (lN a), .long (lN b)] ([]) (fun r _ => r = if a < b then -1 else if a = b then 0 else 1) (fun _ => []) := by
  refine Ctr.start (by decide) (Nat.le_of_ble_eq_true rfl) ?_
  intro zp ze zs zm below meth zc A ls C0 hin hK hA hl hw
  obtain ⟨hx, hb, hr, hlk, hml, hown, hts⟩ := C0
  obtain ⟨R, hRR⟩ : ∃ R : Room, R = rmL 1 0 0 := ⟨_, rfl⟩
  have hRf : R.frames = 1 := by rw [hRR]
  have hRl : R.locals = 64 * 1 := by rw [hRR]
  have hRc : R.cells = 0 := by rw [hRR]
  have hRs : R.slots = 0 := by rw [hRR]
  rw [← hRR]; clear hRR
  generalize hQ : MQ below _ _ zs _ _ A = Q
  generalize hAr : List.toArray _ = args at hts hQ ⊢
  replace hl : lv_has ls 4 [(0, .long (lN a)), (2, .long (lN b))] := hl
  obtain ⟨H, eH⟩ : ∃ H : Heap, H = zs.heap := ⟨_, rfl⟩
  obtain ⟨locs, eL⟩ : ∃ l0 : List Loc, l0 = [] := ⟨_, rfl⟩
  rw [← eH, ← eL] at hw ⊢; clear eH eL
  refine lv_lload_n hx hb d_Long_compareUnsigned_0 rfl (lv_at hl 0 rfl) ?_
  refine lv_ldc2 (v := (-9223372036854775808)) hx hb hown (hts _ tm_173) d_Long_compareUnsigned_1 ?_
  refine lv_ladd hx hb d_Long_compareUnsigned_4 ?_
  refine lv_lload_n hx hb d_Long_compareUnsigned_5 rfl (lv_at hl 1 rfl) ?_
  refine lv_ldc2 (v := (-9223372036854775808)) hx hb hown (hts _ tm_173) d_Long_compareUnsigned_6 ?_
  refine lv_ladd hx hb d_Long_compareUnsigned_9 ?_
  refine xS_i (rest := []) (As := [.long ((lN a) + (-9223372036854775808)), .long ((lN b) + (-9223372036854775808))]) hx hb hml hown hts hK hA hw k_Long_302 (c_Long_compare zl G (lN a + (-9223372036854775808)) (lN b + (-9223372036854775808))) [] rfl rfl (fun _ => Nat.le_of_ble_eq_true rfl) rfl rfl hl.1 (Nat.le_of_ble_eq_true rfl) ⟨(by omega), (by omega)⟩ ⟨(by omega), (by omega)⟩ d_Long_compareUnsigned_10 (fun r u H locs hp hw1 => ?_)
  refine W.cs (cells' := 0) (slots' := 0) rfl rfl ?_
  replace hw : WW G A zs ([]) H locs := hw1
  exact r_ret hQ (r_iret () hx hb hr hlk hw (by rw [hp]; simp only [(cmpU ha hb9).1, (cmpU ha hb9).2]) (by omega) (by omega) d_Long_compareUnsigned_13)
set_option maxHeartbeats 4000000 in
set_option maxRecDepth 100000 in
/-- X.form: the least form -/
theorem c_X_form (zl : Launch) (G : GG) (h0 qn qm ho qs1 qc1 hw0 qs qc n : Nat) (v0 v1 v2 v3 v4 v5 v6 v9 v10 v11 v12 v13 v14 v15 v16 v17 v18 v19 v20 v21 v22 v23 v26 : Value) (z1 : Value) (fn fm f1 g1 f g : Nat → Int32) (ps : List (List Nat)) (w : Wh) (hV : Vl n w) (hn4 : n ≤ 4) (hf : Sts f w) (hg : Cds g 0 w.2) (h00 : 0 < ps.length) (h24 : ps.length ≤ 24) (hPm : ∀ π ∈ ps, Pm n π) (hnum : ∀ k, k < ps.length → ∀ i, i < 4 → fn (4 * k + i) = nI ((ps.getD k []).getD i 0)) : Ctr (S := Nat × (Nat → Int32) × Value × (Nat → Int32) × (Nat → Int32)) vJ zl y_X_form b_X_form 8 (Option.some Jvm.ClassFile.FieldType.long) 2 0 0 G [.ref h0, .ref hw0] ([oX h0 [v0, v1, v2, v3, v4, v5, v6, .ref qn, .int (nI ps.length), v9, v10, v11, v12, v13, v14, v15, v16, v17, v18, v19, v20, v21, v22, v23, .ref ho, .ref qm, v26], aI G qn 96 fn, aI G qm 4 fm, oW ho [.ref qs1, .ref qc1, z1], aI G qs1 4 f1, aI G qc1 8 g1, oW hw0 [.ref qs, .ref qc, .int (nI w.2.length)], aI G qs 4 f, aI G qc 8 g]) (fun r u => r = lN (pk (frm ps w).1) ∧ u.1 = (frm ps w).2) (fun u => [oX h0 [v0, v1, v2, v3, v4, v5, v6, .ref qn, .int (nI ps.length), v9, v10, v11, v12, v13, v14, v15, v16, v17, v18, v19, v20, v21, v22, v23, .ref ho, .ref qm, .int (nI u.1)], aI G qn 96 fn, aI G qm 4 u.2.1, oW ho [.ref qs1, .ref qc1, u.2.2.1], aI G qs1 4 u.2.2.2.1, aI G qc1 8 u.2.2.2.2, oW hw0 [.ref qs, .ref qc, .int (nI w.2.length)], aI G qs 4 f, aI G qc 8 g]) := by
  refine Ctr.start (by decide) (Nat.le_of_ble_eq_true rfl) ?_
  intro zp ze zs zm below meth zc A ls C0 hin hK hA hl hw
  obtain ⟨hx, hb, hr, hlk, hml, hown, hts⟩ := C0
  obtain ⟨R, hRR⟩ : ∃ R : Room, R = rmL 2 0 0 := ⟨_, rfl⟩
  have hRf : R.frames = 2 := by rw [hRR]
  have hRl : R.locals = 64 * 2 := by rw [hRR]
  have hRc : R.cells = 0 := by rw [hRR]
  have hRs : R.slots = 0 := by rw [hRR]
  rw [← hRR]; clear hRR
  generalize hQ : MQ below _ _ zs _ _ A = Q
  generalize hAr : List.toArray _ = args at hts hQ ⊢
  replace hl : lv_has ls 8 [(0, .ref h0), (1, .ref hw0)] := hl
  obtain ⟨H, eH⟩ : ∃ H : Heap, H = zs.heap := ⟨_, rfl⟩
  obtain ⟨locs, eL⟩ : ∃ l0 : List Loc, l0 = [] := ⟨_, rfl⟩
  rw [← eH, ← eL] at hw ⊢; clear eH eL
  refine lv_lconst (v := lN 0) hx hb d_X_form_0 rfl ?_
  refine lv_lstore_n (lv' := [(2, .long (lN 0)), (0, .ref h0), (1, .ref hw0)]) hx hb d_X_form_1 rfl hl (by decide) rfl (fun ls hl => ?_)
  refine lv_aload_n hx hb d_X_form_2 rfl (lv_at hl 1 rfl) ?_
  refine lv_iconst (v := nI 0) hx hb d_X_form_3 rfl ?_
  refine p_X_144 hx hb hts hown hK hw 0 rfl (Nat.le_of_ble_eq_true rfl) d_X_form_4 (fun H locs hw1 => ?_)
  replace hw : WW G A zs ([oX h0 [v0, v1, v2, v3, v4, v5, v6, .ref qn, .int (nI ps.length), v9, v10, v11, v12, v13, v14, v15, v16, v17, v18, v19, v20, v21, v22, v23, .ref ho, .ref qm, .int (nI 0)], aI G qn 96 fn, aI G qm 4 fm, oW ho [.ref qs1, .ref qc1, z1], aI G qs1 4 f1, aI G qc1 8 g1, oW hw0 [.ref qs, .ref qc, .int (nI w.2.length)], aI G qs 4 f, aI G qc 8 g]) H locs := hw1
  refine lv_iconst (v := nI 0) hx hb d_X_form_7 rfl ?_
  refine lv_istore (lv' := [(4, .int (nI 0)), (2, .long (lN 0)), (0, .ref h0), (1, .ref hw0)]) hx hb d_X_form_8 hl (by decide) rfl (fun ls hl => ?_)
  have Lp10 : ∀ N_10 : Nat, ∀ (k : Nat) (b : Wh) (sc : Nat) (fm : Nat → Int32) (z1 : Value) (f1 : Nat → Int32) (g1 : Nat → Int32), (k ≤ ps.length) → (FI ps w k b sc) → (pk b < 18446744073709551616) → ps.length - k < N_10 → ∀ (H : Heap) (locs : List Loc) (ls : Array Slot), lv_has ls 8 [(0, .ref h0), (1, .ref hw0), (2, .long (lN (pk b))), (4, .int (nI k))] → WW G A zs ([oX h0 [v0, v1, v2, v3, v4, v5, v6, .ref qn, .int (nI ps.length), v9, v10, v11, v12, v13, v14, v15, v16, v17, v18, v19, v20, v21, v22, v23, .ref ho, .ref qm, .int (nI sc)], aI G qn 96 fn, aI G qm 4 fm, oW ho [.ref qs1, .ref qc1, z1], aI G qs1 4 f1, aI G qc1 8 g1, oW hw0 [.ref qs, .ref qc, .int (nI w.2.length)], aI G qs 4 f, aI G qc 8 g]) H locs → W zp zl ze R zs zm args below meth zc H locs 0 0 Q (F0 zm 10 ls []) := by
    intro N_10
    induction N_10 with
    | zero => intros; omega
    | succ N_10 ih_10 =>
      intro k b sc fm z1 f1 g1 hk hF hpb hN_10 H locs ls hl hw
      have hsc := hF.len
      refine lv_iload hx hb d_X_form_10 (lv_at hl 3 rfl) ?_
      refine lv_aload_n hx hb d_X_form_12 rfl (lv_at hl 0 rfl) ?_
      refine g_X_87 hx hb hts hown hK hw 0 rfl rfl d_X_form_13 ?_
      refine r_icmp_ge (tgt := 113) hx hb (by omega) (by omega) d_X_form_16 (by decide) (fun c_16 => ?_) (fun c_16 => ?_)
      · skip
        refine lv_lload_n hx hb d_X_form_113 rfl (lv_at hl 2 rfl) ?_
        exact r_ret hQ (r_lret (sc, fm, z1, f1, g1) hx hb hr hlk hw (form_fin hF h00 (by omega)) (by omega) (by omega) d_X_form_114)
      · skip
        have hPk := hPm (ps.getD k []) (getD_mem c_16)
        have hvt := trn_ok hPk hV hn4
        have hv64 := pk_lt64 hvt
        refine lv_aload_n hx hb d_X_form_19 rfl (lv_at hl 0 rfl) ?_
        refine g_X_23 hx hb hts hown hK hw 0 rfl rfl d_X_form_20 ?_
        refine lv_iconst (v := nI 4) hx hb d_X_form_23 rfl ?_
        refine lv_iload hx hb d_X_form_24 (lv_at hl 3 rfl) ?_
        refine r_imulN hx hb d_X_form_26 ?_
        refine lv_aload_n hx hb d_X_form_27 rfl (lv_at hl 0 rfl) ?_
        refine g_X_65 hx hb hts hown hK hw 0 rfl rfl d_X_form_28 ?_
        refine lv_iconst (v := nI 0) hx hb d_X_form_31 rfl ?_
        refine lv_iconst (v := nI 4) hx hb d_X_form_32 rfl ?_
        refine r_copyI hx hb (by rw [hml]; exact hl.1.symm) hts hown tm_155 tm_157 tm_156 hK hw 1 2 rfl rfl (sp := (4 * k)) (dp := 0) (n := 4) (by omega) (by omega) (by omega) (by omega) (by omega) (by rw [hRl]; exact Nat.le_of_ble_eq_true rfl) d_X_form_33 (fun H locs hw1 => ?_)
        replace hw : WW G A zs ([oX h0 [v0, v1, v2, v3, v4, v5, v6, .ref qn, .int (nI ps.length), v9, v10, v11, v12, v13, v14, v15, v16, v17, v18, v19, v20, v21, v22, v23, .ref ho, .ref qm, .int (nI sc)], aI G qn 96 fn, aI G qm 4 (va_cpy fn fm (4 * k) 0 4), oW ho [.ref qs1, .ref qc1, z1], aI G qs1 4 f1, aI G qc1 8 g1, oW hw0 [.ref qs, .ref qc, .int (nI w.2.length)], aI G qs 4 f, aI G qc 8 g]) H locs := hw1
        refine lv_aload_n hx hb d_X_form_36 rfl (lv_at hl 1 rfl) ?_
        refine lv_aload_n hx hb d_X_form_37 rfl (lv_at hl 0 rfl) ?_
        refine g_X_62 hx hb hts hown hK hw 0 rfl rfl d_X_form_38 ?_
        refine lv_aload_n hx hb d_X_form_41 rfl (lv_at hl 0 rfl) ?_
        refine g_X_65 hx hb hts hown hK hw 0 rfl rfl d_X_form_42 ?_
        refine xV_v (rest := []) (As := [.ref ho, .ref qm]) hx hb hml hown hts hK hA hw k_X_153 (c_W_turn zl G hw0 qs qc ho qs1 qc1 qm n z1 f g f1 g1 (va_cpy fn fm (4 * k) 0 4) w (ps.getD k []) hV hn4 hPk hf hg (form_nm hnum c_16)) [6, 7, 8, 3, 4, 5, 2] rfl rfl (fun _ => Nat.le_of_ble_eq_true rfl) 0 rfl rfl rfl rfl hl.1 (Nat.le_of_ble_eq_true rfl) ⟨(by omega), (by omega)⟩ ⟨(by omega), (by omega)⟩ d_X_form_45 (fun _ u2 H locs hp hw1 => ?_)
        obtain ⟨f2, g2⟩ := u2
        have ht2 := hp
        refine W.cs (cells' := 0) (slots' := 0) rfl rfl ?_
        replace hw : WW G A zs ([oX h0 [v0, v1, v2, v3, v4, v5, v6, .ref qn, .int (nI ps.length), v9, v10, v11, v12, v13, v14, v15, v16, v17, v18, v19, v20, v21, v22, v23, .ref ho, .ref qm, .int (nI sc)], aI G qn 96 fn, aI G qm 4 (va_cpy fn fm (4 * k) 0 4), oW ho [.ref qs1, .ref qc1, .int (nI ((trn (ps.getD k []) w).2.length))], aI G qs1 4 f2, aI G qc1 8 g2, oW hw0 [.ref qs, .ref qc, .int (nI w.2.length)], aI G qs 4 f, aI G qc 8 g]) H locs := hw1
        refine lv_aload_n hx hb d_X_form_48 rfl (lv_at hl 0 rfl) ?_
        refine g_X_62 hx hb hts hown hK hw 0 rfl rfl d_X_form_49 ?_
        refine xV_j (rest := []) (As := []) hx hb hml hown hts hK hA hw k_X_157 (c_W_pack zl G ho qs1 qc1 n f2 g2 (trn (ps.getD k []) w) hvt ht2.1 ht2.2) [3, 4, 5] rfl rfl (fun _ => Nat.le_of_ble_eq_true rfl) 0 rfl rfl rfl rfl hl.1 (Nat.le_of_ble_eq_true rfl) ⟨(by omega), (by omega)⟩ ⟨(by omega), (by omega)⟩ d_X_form_52 (fun r u H locs hp hw1 => ?_)
        subst hp
        refine W.cs (cells' := 0) (slots' := 0) rfl rfl ?_
        replace hw : WW G A zs ([oX h0 [v0, v1, v2, v3, v4, v5, v6, .ref qn, .int (nI ps.length), v9, v10, v11, v12, v13, v14, v15, v16, v17, v18, v19, v20, v21, v22, v23, .ref ho, .ref qm, .int (nI sc)], aI G qn 96 fn, aI G qm 4 (va_cpy fn fm (4 * k) 0 4), oW ho [.ref qs1, .ref qc1, .int (nI ((trn (ps.getD k []) w).2.length))], aI G qs1 4 f2, aI G qc1 8 g2, oW hw0 [.ref qs, .ref qc, .int (nI w.2.length)], aI G qs 4 f, aI G qc 8 g]) H locs := hw1
        refine lv_lstore (lv' := [(5, .long (lN (pk (trn (ps.getD k []) w)))), (0, .ref h0), (1, .ref hw0), (2, .long (lN (pk b))), (4, .int (nI k))]) hx hb d_X_form_55 hl (by decide) rfl (fun ls hl => ?_)
        refine lv_aload_n hx hb d_X_form_57 rfl (lv_at hl 1 rfl) ?_
        refine g_X_144 hx hb hts hown hK hw 0 rfl rfl d_X_form_58 ?_
        refine r_if_ne (tgt := 68) hx hb (by omega) d_X_form_61 (by decide) (fun c_61 => ?_) (fun c_61 => ?_)
        · skip
          refine lv_lload hx hb d_X_form_68 (lv_at hl 0 rfl) ?_
          refine lv_lload_n hx hb d_X_form_70 rfl (lv_at hl 3 rfl) ?_
          refine xS_i (rest := []) (As := [.long (lN (pk (trn (ps.getD k []) w))), .long (lN (pk b))]) hx hb hml hown hts hK hA hw k_X_161 (c_Long_compareUnsigned zl G (pk (trn (ps.getD k []) w)) (pk b) hv64 hpb) [] rfl rfl (fun _ => Nat.le_of_ble_eq_true rfl) rfl rfl hl.1 (Nat.le_of_ble_eq_true rfl) ⟨(by omega), (by omega)⟩ ⟨(by omega), (by omega)⟩ d_X_form_71 (fun r u H locs hp hw1 => ?_)
          have hr1 := hp
          refine W.cs (cells' := 0) (slots' := 0) rfl rfl ?_
          replace hw : WW G A zs ([oX h0 [v0, v1, v2, v3, v4, v5, v6, .ref qn, .int (nI ps.length), v9, v10, v11, v12, v13, v14, v15, v16, v17, v18, v19, v20, v21, v22, v23, .ref ho, .ref qm, .int (nI sc)], aI G qn 96 fn, aI G qm 4 (va_cpy fn fm (4 * k) 0 4), oW ho [.ref qs1, .ref qc1, .int (nI ((trn (ps.getD k []) w).2.length))], aI G qs1 4 f2, aI G qc1 8 g2, oW hw0 [.ref qs, .ref qc, .int (nI w.2.length)], aI G qs 4 f, aI G qc 8 g]) H locs := hw1
          refine lv_istore (lv' := [(7, .int r), (5, .long (lN (pk (trn (ps.getD k []) w)))), (0, .ref h0), (1, .ref hw0), (2, .long (lN (pk b))), (4, .int (nI k))]) hx hb d_X_form_74 hl (by decide) rfl (fun ls hl => ?_)
          refine lv_iload hx hb d_X_form_76 (lv_at hl 0 rfl) ?_
          refine lv_if_ge (tgt := 92) hx hb d_X_form_78 (by decide) (fun c_78 => ?_) (fun c_78 => ?_)
          · skip
            refine lv_iload hx hb d_X_form_92 (lv_at hl 0 rfl) ?_
            refine lv_if_ne (tgt := 107) hx hb d_X_form_94 (by decide) (fun c_94 => ?_) (fun c_94 => ?_)
            · skip
              have hv1 := form_gt hr1 c_78 c_94
              refine r_iincN (n := 1) (lv' := [(4, .int (nI (k + 1))), (7, .int r), (5, .long (lN (pk (trn (ps.getD k []) w)))), (0, .ref h0), (1, .ref hw0), (2, .long (lN (pk b)))]) hx hb d_X_form_107 hl (k := 5) rfl (by decide) rfl (fun ls hl => ?_)
              refine lv_goto (tgt := 10) hx hb d_X_form_110 (by decide) ?_
              exact ih_10 (k + 1) _ sc (va_cpy fn fm (4 * k) 0 4) (.int (nI ((trn (ps.getD k []) w).2.length))) f2 g2 (by omega) (hF.more c_61 c_16 hv1) hpb (by omega) _ _ _ (lv_sub hl [3, 4, 5, 0] rfl) hw
            · skip
              have hv1 := form_eq hr1 c_94
              refine lv_aload_n hx hb d_X_form_97 rfl (lv_at hl 2 rfl) ?_
              refine lv_dup hx hb d_X_form_98 rfl ?_
              refine g_X_144 hx hb hts hown hK hw 0 rfl rfl d_X_form_99 ?_
              refine lv_iconst (v := nI 1) hx hb d_X_form_102 rfl ?_
              refine r_iaddN hx hb d_X_form_103 ?_
              refine p_X_144 hx hb hts hown hK hw 0 rfl (Nat.le_of_ble_eq_true rfl) d_X_form_104 (fun H locs hw1 => ?_)
              replace hw : WW G A zs ([oX h0 [v0, v1, v2, v3, v4, v5, v6, .ref qn, .int (nI ps.length), v9, v10, v11, v12, v13, v14, v15, v16, v17, v18, v19, v20, v21, v22, v23, .ref ho, .ref qm, .int (nI (sc + 1))], aI G qn 96 fn, aI G qm 4 (va_cpy fn fm (4 * k) 0 4), oW ho [.ref qs1, .ref qc1, .int (nI ((trn (ps.getD k []) w).2.length))], aI G qs1 4 f2, aI G qc1 8 g2, oW hw0 [.ref qs, .ref qc, .int (nI w.2.length)], aI G qs 4 f, aI G qc 8 g]) H locs := hw1
              refine r_iincN (n := 1) (lv' := [(4, .int (nI (k + 1))), (7, .int r), (5, .long (lN (pk (trn (ps.getD k []) w)))), (0, .ref h0), (1, .ref hw0), (2, .long (lN (pk b)))]) hx hb d_X_form_107 hl (k := 5) rfl (by decide) rfl (fun ls hl => ?_)
              refine lv_goto (tgt := 10) hx hb d_X_form_110 (by decide) ?_
              exact ih_10 (k + 1) _ (sc + 1) (va_cpy fn fm (4 * k) 0 4) (.int (nI ((trn (ps.getD k []) w).2.length))) f2 g2 (by omega) (hF.same c_61 c_16 hv1) hpb (by omega) _ _ _ (lv_sub hl [3, 4, 5, 0] rfl) hw
          · skip
            try have hv1 := form_lt hr1 c_78
            refine lv_lload hx hb d_X_form_81 (lv_at hl 1 rfl) ?_
            refine lv_lstore_n (lv' := [(2, .long (lN (pk (trn (ps.getD k []) w)))), (7, .int r), (5, .long (lN (pk (trn (ps.getD k []) w)))), (0, .ref h0), (1, .ref hw0), (4, .int (nI k))]) hx hb d_X_form_83 rfl hl (by decide) rfl (fun ls hl => ?_)
            refine lv_aload_n hx hb d_X_form_84 rfl (lv_at hl 3 rfl) ?_
            refine lv_iconst (v := nI 1) hx hb d_X_form_85 rfl ?_
            refine p_X_144 hx hb hts hown hK hw 0 rfl (Nat.le_of_ble_eq_true rfl) d_X_form_86 (fun H locs hw1 => ?_)
            replace hw : WW G A zs ([oX h0 [v0, v1, v2, v3, v4, v5, v6, .ref qn, .int (nI ps.length), v9, v10, v11, v12, v13, v14, v15, v16, v17, v18, v19, v20, v21, v22, v23, .ref ho, .ref qm, .int (nI 1)], aI G qn 96 fn, aI G qm 4 (va_cpy fn fm (4 * k) 0 4), oW ho [.ref qs1, .ref qc1, .int (nI ((trn (ps.getD k []) w).2.length))], aI G qs1 4 f2, aI G qc1 8 g2, oW hw0 [.ref qs, .ref qc, .int (nI w.2.length)], aI G qs 4 f, aI G qc 8 g]) H locs := hw1
            refine lv_goto (tgt := 107) hx hb d_X_form_89 (by decide) ?_
            refine r_iincN (n := 1) (lv' := [(4, .int (nI (k + 1))), (2, .long (lN (pk (trn (ps.getD k []) w)))), (7, .int r), (5, .long (lN (pk (trn (ps.getD k []) w)))), (0, .ref h0), (1, .ref hw0)]) hx hb d_X_form_107 hl (k := 5) rfl (by decide) rfl (fun ls hl => ?_)
            refine lv_goto (tgt := 10) hx hb d_X_form_110 (by decide) ?_
-- MISMATCH X_form pc 10: pk b vs pk (trn (ps.getD k []) w) (local 2)
            exact ih_10 (k + 1) _ 1 (va_cpy fn fm (4 * k) 0 4) (.int (nI ((trn (ps.getD k []) w).2.length))) f2 g2 (by omega) (hF.less c_61 c_16 hv1) hv64 (by omega) _ _ _ (lv_sub hl [4, 5, 1, 0] rfl) hw
        · skip
          refine lv_iconst (v := -1) hx hb d_X_form_64 (by decide) ?_
          refine lv_goto (tgt := 74) hx hb d_X_form_65 (by decide) ?_
          refine lv_istore (lv' := [(7, .int (-1)), (5, .long (lN (pk (trn (ps.getD k []) w)))), (0, .ref h0), (1, .ref hw0), (2, .long (lN (pk b))), (4, .int (nI k))]) hx hb d_X_form_74 hl (by decide) rfl (fun ls hl => ?_)
          refine lv_iload hx hb d_X_form_76 (lv_at hl 0 rfl) ?_
          refine lv_if_ge (tgt := 92) hx hb d_X_form_78 (by decide) (fun c_78 => ?_) (fun c_78 => ?_)
          · skip
            exact absurd c_78 (by decide)
          · skip
            try have hv1 := form_lt hr1 c_78
            refine lv_lload hx hb d_X_form_81 (lv_at hl 1 rfl) ?_
            refine lv_lstore_n (lv' := [(2, .long (lN (pk (trn (ps.getD k []) w)))), (7, .int (-1)), (5, .long (lN (pk (trn (ps.getD k []) w)))), (0, .ref h0), (1, .ref hw0), (4, .int (nI k))]) hx hb d_X_form_83 rfl hl (by decide) rfl (fun ls hl => ?_)
            refine lv_aload_n hx hb d_X_form_84 rfl (lv_at hl 3 rfl) ?_
            refine lv_iconst (v := nI 1) hx hb d_X_form_85 rfl ?_
            refine p_X_144 hx hb hts hown hK hw 0 rfl (Nat.le_of_ble_eq_true rfl) d_X_form_86 (fun H locs hw1 => ?_)
            replace hw : WW G A zs ([oX h0 [v0, v1, v2, v3, v4, v5, v6, .ref qn, .int (nI ps.length), v9, v10, v11, v12, v13, v14, v15, v16, v17, v18, v19, v20, v21, v22, v23, .ref ho, .ref qm, .int (nI 1)], aI G qn 96 fn, aI G qm 4 (va_cpy fn fm (4 * k) 0 4), oW ho [.ref qs1, .ref qc1, .int (nI ((trn (ps.getD k []) w).2.length))], aI G qs1 4 f2, aI G qc1 8 g2, oW hw0 [.ref qs, .ref qc, .int (nI w.2.length)], aI G qs 4 f, aI G qc 8 g]) H locs := hw1
            refine lv_goto (tgt := 107) hx hb d_X_form_89 (by decide) ?_
            refine r_iincN (n := 1) (lv' := [(4, .int (nI (k + 1))), (2, .long (lN (pk (trn (ps.getD k []) w)))), (7, .int (-1)), (5, .long (lN (pk (trn (ps.getD k []) w)))), (0, .ref h0), (1, .ref hw0)]) hx hb d_X_form_107 hl (k := 5) rfl (by decide) rfl (fun ls hl => ?_)
            refine lv_goto (tgt := 10) hx hb d_X_form_110 (by decide) ?_
-- MISMATCH X_form pc 10: pk b vs pk (trn (ps.getD k []) w) (local 2)
            exact ih_10 (k + 1) _ 1 (va_cpy fn fm (4 * k) 0 4) (.int (nI ((trn (ps.getD k []) w).2.length))) f2 g2 (by omega) (by rw [c_61] at hF; exact hF.first c_16) hv64 (by omega) _ _ _ (lv_sub hl [4, 5, 1, 0] rfl) hw
-- MISMATCH X_form pc 10: pk (([], []) : Wh) vs 0 (local 2)
  exact Lp10 _ 0 (([], []) : Wh) 0 fm z1 f1 g1 (by omega) FI.init (by decide) (Nat.lt_succ_self _) _ _ _ (lv_sub hl [2, 3, 1, 0] rfl) hw
