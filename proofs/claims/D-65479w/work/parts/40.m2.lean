theorem formM_fin {ps pm : List (List Nat)} {w b : Wh} {p sc n : Nat} {fl : Nat → Int32} (hF : FI pm w p b sc) (h : p = 0 ∨ (Row fl 0 b ∧ Vl n b ∧ b.2.length = w.2.length)) (h0 : 0 < pm.length) (hp : p = pm.length) (hfe : frm pm w = frm ps w) : sc = (frm ps w).2 ∧ Row fl 0 (frm ps w).1 := by
  have h1 := hF.fin h0 hp
  rw [← hfe, h1]
  exact ⟨rfl, (h.resolve_left (by omega)).1⟩
set_option maxHeartbeats 4000000 in
set_option maxRecDepth 100000 in
theorem c_M_throwing (zl : Launch) (G : GG) (h0 : Nat) (th a b : Int32) (v1 v2 v3 v4 v5 v6 v7 v8 v9 v10 v11 v12 v13 v14 v15 v16 v17 v18 v19 v20 v21 v22 v23 v24 v25 v26 v27 v28 v29 v30 v31 v32 v33 : Value) : Ctr (S := Int32) vI zl y_M_throwing b_M_throwing 3 (Option.some Jvm.ClassFile.FieldType.boolean) 0 0 0 G [.ref h0, .int a, .int b] ([oM h0 [.int th, v1, v2, v3, v4, v5, v6, v7, v8, v9, v10, v11, v12, v13, v14, v15, v16, v17, v18, v19, v20, v21, v22, v23, v24, v25, v26, v27, v28, v29, v30, v31, v32, v33]]) (fun r u => u = (if a = 0 then (if b = 0 then nI 0 else nI 2) else nI 1) ∧ r = (if a = 0 then (if b = 0 then nI 0 else nI 1) else nI 1)) (fun u => [oM h0 [.int u, v1, v2, v3, v4, v5, v6, v7, v8, v9, v10, v11, v12, v13, v14, v15, v16, v17, v18, v19, v20, v21, v22, v23, v24, v25, v26, v27, v28, v29, v30, v31, v32, v33]]) := by
  refine Ctr.start (by decide) (Nat.le_of_ble_eq_true rfl) ?_
  intro zp ze zs zm below meth zc A ls C0 hin hK hA hl hw
  obtain ⟨hx, hb, hr, hlk, hml, hown, hts⟩ := C0
  obtain ⟨R, hRR⟩ : ∃ R : Room, R = rmL 0 0 0 := ⟨_, rfl⟩
  have hRf : R.frames = 0 := by rw [hRR]
  have hRl : R.locals = 64 * 0 := by rw [hRR]
  have hRc : R.cells = 0 := by rw [hRR]
  have hRs : R.slots = 0 := by rw [hRR]
  rw [← hRR]; clear hRR
  generalize hQ : MQ below _ _ zs _ _ A = Q
  generalize hAr : List.toArray _ = args at hts hQ ⊢
  replace hl : lv_has ls 3 [(0, .ref h0), (1, .int a), (2, .int b)] := hl
  obtain ⟨H, eH⟩ : ∃ H : Heap, H = zs.heap := ⟨_, rfl⟩
  obtain ⟨locs, eL⟩ : ∃ l0 : List Loc, l0 = [] := ⟨_, rfl⟩
  rw [← eH, ← eL] at hw ⊢; clear eH eL
  refine lv_aload_n hx hb d_M_throwing_0 rfl (lv_at hl 0 rfl) ?_
  refine lv_iload_n hx hb d_M_throwing_1 rfl (lv_at hl 1 rfl) ?_
  refine lv_if_eq (tgt := 9) hx hb d_M_throwing_2 (by decide) (fun c_2 => ?_) (fun c_2 => ?_)
  · skip
    refine lv_iload_n hx hb d_M_throwing_9 rfl (lv_at hl 2 rfl) ?_
    refine lv_if_eq (tgt := 17) hx hb d_M_throwing_10 (by decide) (fun c_10 => ?_) (fun c_10 => ?_)
    · skip
      refine lv_iconst (v := nI 0) hx hb d_M_throwing_17 rfl ?_
      refine p_M_79 hx hb hts hown hK hw 0 rfl (Nat.le_of_ble_eq_true rfl) d_M_throwing_18 (fun H locs hw1 => ?_)
      replace hw : WW G A zs ([oM h0 [.int (nI 0), v1, v2, v3, v4, v5, v6, v7, v8, v9, v10, v11, v12, v13, v14, v15, v16, v17, v18, v19, v20, v21, v22, v23, v24, v25, v26, v27, v28, v29, v30, v31, v32, v33]]) H locs := hw1
      refine lv_aload_n hx hb d_M_throwing_21 rfl (lv_at hl 0 rfl) ?_
      refine g_M_79 hx hb hts hown hK hw 0 rfl rfl d_M_throwing_22 ?_
      refine r_if_le (tgt := 32) hx hb (by omega) d_M_throwing_25 (by decide) (fun c_25 => ?_) (fun c_25 => ?_)
      · skip
        refine lv_iconst (v := nI 0) hx hb d_M_throwing_32 rfl ?_
        exact r_ret hQ (r_zret (nI 0) hx hb hr hlk hw (⟨by rw [if_pos c_2, if_pos c_10], by rw [if_pos c_2, if_pos c_10]⟩) (by decide) (by omega) (by omega) d_M_throwing_33)
      · skip
        exfalso; omega
    · skip
      refine lv_iconst (v := nI 2) hx hb d_M_throwing_13 rfl ?_
      refine lv_goto (tgt := 18) hx hb d_M_throwing_14 (by decide) ?_
      refine p_M_79 hx hb hts hown hK hw 0 rfl (Nat.le_of_ble_eq_true rfl) d_M_throwing_18 (fun H locs hw1 => ?_)
      replace hw : WW G A zs ([oM h0 [.int (nI 2), v1, v2, v3, v4, v5, v6, v7, v8, v9, v10, v11, v12, v13, v14, v15, v16, v17, v18, v19, v20, v21, v22, v23, v24, v25, v26, v27, v28, v29, v30, v31, v32, v33]]) H locs := hw1
      refine lv_aload_n hx hb d_M_throwing_21 rfl (lv_at hl 0 rfl) ?_
      refine g_M_79 hx hb hts hown hK hw 0 rfl rfl d_M_throwing_22 ?_
      refine r_if_le (tgt := 32) hx hb (by omega) d_M_throwing_25 (by decide) (fun c_25 => ?_) (fun c_25 => ?_)
      · skip
        exfalso; omega
      · skip
        refine lv_iconst (v := nI 1) hx hb d_M_throwing_28 rfl ?_
        refine lv_goto (tgt := 33) hx hb d_M_throwing_29 (by decide) ?_
        exact r_ret hQ (r_zret (nI 2) hx hb hr hlk hw (⟨by rw [if_pos c_2, if_neg c_10], by rw [if_pos c_2, if_neg c_10]⟩) (by decide) (by omega) (by omega) d_M_throwing_33)
  · skip
    refine lv_iconst (v := nI 1) hx hb d_M_throwing_5 rfl ?_
    refine lv_goto (tgt := 18) hx hb d_M_throwing_6 (by decide) ?_
    refine p_M_79 hx hb hts hown hK hw 0 rfl (Nat.le_of_ble_eq_true rfl) d_M_throwing_18 (fun H locs hw1 => ?_)
    replace hw : WW G A zs ([oM h0 [.int (nI 1), v1, v2, v3, v4, v5, v6, v7, v8, v9, v10, v11, v12, v13, v14, v15, v16, v17, v18, v19, v20, v21, v22, v23, v24, v25, v26, v27, v28, v29, v30, v31, v32, v33]]) H locs := hw1
    refine lv_aload_n hx hb d_M_throwing_21 rfl (lv_at hl 0 rfl) ?_
    refine g_M_79 hx hb hts hown hK hw 0 rfl rfl d_M_throwing_22 ?_
    refine r_if_le (tgt := 32) hx hb (by omega) d_M_throwing_25 (by decide) (fun c_25 => ?_) (fun c_25 => ?_)
    · skip
      exfalso; omega
    · skip
      refine lv_iconst (v := nI 1) hx hb d_M_throwing_28 rfl ?_
      refine lv_goto (tgt := 33) hx hb d_M_throwing_29 (by decide) ?_
      exact r_ret hQ (r_zret (nI 1) hx hb hr hlk hw (⟨by rw [if_neg c_2], by rw [if_neg c_2]⟩) (by decide) (by omega) (by omega) d_M_throwing_33)
set_option maxHeartbeats 4000000 in
set_option maxRecDepth 100000 in
theorem c_M_isOf (zl : Launch) (G : GG) (k n : Int32) : Ctr (S := Unit) vI zl y_M_isOf b_M_isOf 2 (Option.some Jvm.ClassFile.FieldType.boolean) 0 0 0 G [.int k, .int n] ([]) (fun r _ => r = if 0 ≤ k ∧ k < n then nI 1 else nI 0) (fun _ => []) := by
  refine Ctr.start (by decide) (Nat.le_of_ble_eq_true rfl) ?_
  intro zp ze zs zm below meth zc A ls C0 hin hK hA hl hw
  obtain ⟨hx, hb, hr, hlk, hml, hown, hts⟩ := C0
  obtain ⟨R, hRR⟩ : ∃ R : Room, R = rmL 0 0 0 := ⟨_, rfl⟩
  have hRf : R.frames = 0 := by rw [hRR]
  have hRl : R.locals = 64 * 0 := by rw [hRR]
  have hRc : R.cells = 0 := by rw [hRR]
  have hRs : R.slots = 0 := by rw [hRR]
  rw [← hRR]; clear hRR
  generalize hQ : MQ below _ _ zs _ _ A = Q
  generalize hAr : List.toArray _ = args at hts hQ ⊢
  replace hl : lv_has ls 2 [(0, .int k), (1, .int n)] := hl
  obtain ⟨H, eH⟩ : ∃ H : Heap, H = zs.heap := ⟨_, rfl⟩
  obtain ⟨locs, eL⟩ : ∃ l0 : List Loc, l0 = [] := ⟨_, rfl⟩
  rw [← eH, ← eL] at hw ⊢; clear eH eL
  refine lv_iload_n hx hb d_M_isOf_0 rfl (lv_at hl 0 rfl) ?_
  refine lv_if_lt (tgt := 13) hx hb d_M_isOf_1 (by decide) (fun c_1 => ?_) (fun c_1 => ?_)
  · skip
    refine lv_iconst (v := nI 0) hx hb d_M_isOf_13 rfl ?_
    exact r_ret hQ (r_zret () hx hb hr hlk hw (by rw [if_neg (fun z => absurd z.1 (Int32.not_le.mpr c_1))]) (by decide) (by omega) (by omega) d_M_isOf_14)
  · skip
    refine lv_iload_n hx hb d_M_isOf_4 rfl (lv_at hl 0 rfl) ?_
    refine lv_iload_n hx hb d_M_isOf_5 rfl (lv_at hl 1 rfl) ?_
    refine lv_icmp_ge (tgt := 13) hx hb d_M_isOf_6 (by decide) (fun c_6 => ?_) (fun c_6 => ?_)
    · skip
      refine lv_iconst (v := nI 0) hx hb d_M_isOf_13 rfl ?_
      exact r_ret hQ (r_zret () hx hb hr hlk hw (by rw [if_neg (fun z => absurd z.2 (Int32.not_lt.mpr c_6))]) (by decide) (by omega) (by omega) d_M_isOf_14)
    · skip
      refine lv_iconst (v := nI 1) hx hb d_M_isOf_9 rfl ?_
      refine lv_goto (tgt := 14) hx hb d_M_isOf_10 (by decide) ?_
      exact r_ret hQ (r_zret () hx hb hr hlk hw (by rw [if_pos ⟨Int32.not_lt.mp c_1, Int32.not_le.mp c_6⟩]) (by decide) (by omega) (by omega) d_M_isOf_14)
set_option maxHeartbeats 4000000 in
set_option maxRecDepth 100000 in
theorem c_M_thrown (zl : Launch) (G : GG) (h0 : Nat) (th : Int32) (v1 v2 v3 v4 v5 v6 v7 v8 v9 v10 v11 v12 v13 v14 v15 v16 v17 v18 v19 v20 v21 v22 v23 v24 v25 v26 v27 v28 v29 v30 v31 v32 v33 : Value) : Ctr (S := Unit) vI zl y_M_thrown b_M_thrown 1 (Option.some Jvm.ClassFile.FieldType.int) 0 0 0 G [.ref h0] ([oM h0 [.int th, v1, v2, v3, v4, v5, v6, v7, v8, v9, v10, v11, v12, v13, v14, v15, v16, v17, v18, v19, v20, v21, v22, v23, v24, v25, v26, v27, v28, v29, v30, v31, v32, v33]]) (fun r _ => r = th) (fun _ => [oM h0 [.int th, v1, v2, v3, v4, v5, v6, v7, v8, v9, v10, v11, v12, v13, v14, v15, v16, v17, v18, v19, v20, v21, v22, v23, v24, v25, v26, v27, v28, v29, v30, v31, v32, v33]]) := by
  refine Ctr.start (by decide) (Nat.le_of_ble_eq_true rfl) ?_
  intro zp ze zs zm below meth zc A ls C0 hin hK hA hl hw
  obtain ⟨hx, hb, hr, hlk, hml, hown, hts⟩ := C0
  obtain ⟨R, hRR⟩ : ∃ R : Room, R = rmL 0 0 0 := ⟨_, rfl⟩
  have hRf : R.frames = 0 := by rw [hRR]
  have hRl : R.locals = 64 * 0 := by rw [hRR]
  have hRc : R.cells = 0 := by rw [hRR]
  have hRs : R.slots = 0 := by rw [hRR]
  rw [← hRR]; clear hRR
  generalize hQ : MQ below _ _ zs _ _ A = Q
  generalize hAr : List.toArray _ = args at hts hQ ⊢
  replace hl : lv_has ls 1 [(0, .ref h0)] := hl
  obtain ⟨H, eH⟩ : ∃ H : Heap, H = zs.heap := ⟨_, rfl⟩
  obtain ⟨locs, eL⟩ : ∃ l0 : List Loc, l0 = [] := ⟨_, rfl⟩
  rw [← eH, ← eL] at hw ⊢; clear eH eL
  refine lv_aload_n hx hb d_M_thrown_0 rfl (lv_at hl 0 rfl) ?_
  refine g_M_79 hx hb hts hown hK hw 0 rfl rfl d_M_thrown_1 ?_
  exact r_ret hQ (r_iret () hx hb hr hlk hw rfl (by omega) (by omega) d_M_thrown_4)
set_option maxHeartbeats 4000000 in
set_option maxRecDepth 100000 in
theorem c_M_forget (zl : Launch) (G : GG) (h0 : Nat) (v0 v1 v2 v3 v4 v5 v6 v7 v8 v9 v10 v11 v12 v13 v14 v15 v16 v17 v18 v19 v20 v21 v22 v23 v24 v25 v26 v27 v28 v29 v30 v31 v32 v33 : Value) : Ctr (S := Unit) vV zl y_M_forget b_M_forget 1 (Option.none : Option Jvm.ClassFile.FieldType) 0 0 0 G [.ref h0] ([oM h0 [v0, v1, v2, v3, v4, v5, v6, v7, v8, v9, v10, v11, v12, v13, v14, v15, v16, v17, v18, v19, v20, v21, v22, v23, v24, v25, v26, v27, v28, v29, v30, v31, v32, v33]]) (fun _ _ => True) (fun _ => [oM h0 [v0, v1, v2, v3, v4, v5, v6, v7, v8, v9, v10, v11, v12, v13, v14, .int (nI 0), .int (nI 0), .int (nI 0), .int (nI 0), .int (nI 0), .int (nI 0), .int (-1), v22, v23, v24, v25, v26, v27, v28, v29, v30, v31, v32, v33]]) := by
  refine Ctr.start (by decide) (Nat.le_of_ble_eq_true rfl) ?_
  intro zp ze zs zm below meth zc A ls C0 hin hK hA hl hw
  obtain ⟨hx, hb, hr, hlk, hml, hown, hts⟩ := C0
  obtain ⟨R, hRR⟩ : ∃ R : Room, R = rmL 0 0 0 := ⟨_, rfl⟩
  have hRf : R.frames = 0 := by rw [hRR]
  have hRl : R.locals = 64 * 0 := by rw [hRR]
  have hRc : R.cells = 0 := by rw [hRR]
  have hRs : R.slots = 0 := by rw [hRR]
  rw [← hRR]; clear hRR
  generalize hQ : MQ below _ _ zs _ _ A = Q
  generalize hAr : List.toArray _ = args at hts hQ ⊢
  replace hl : lv_has ls 1 [(0, .ref h0)] := hl
  obtain ⟨H, eH⟩ : ∃ H : Heap, H = zs.heap := ⟨_, rfl⟩
  obtain ⟨locs, eL⟩ : ∃ l0 : List Loc, l0 = [] := ⟨_, rfl⟩
  rw [← eH, ← eL] at hw ⊢; clear eH eL
  refine lv_aload_n hx hb d_M_forget_0 rfl (lv_at hl 0 rfl) ?_
  refine lv_iconst (v := nI 0) hx hb d_M_forget_1 rfl ?_
  refine p_M_82 hx hb hts hown hK hw 0 rfl (Nat.le_of_ble_eq_true rfl) d_M_forget_2 (fun H locs hw1 => ?_)
  replace hw : WW G A zs ([oM h0 [v0, v1, v2, v3, v4, v5, v6, v7, v8, v9, v10, v11, v12, v13, v14, .int (nI 0), v16, v17, v18, v19, v20, v21, v22, v23, v24, v25, v26, v27, v28, v29, v30, v31, v32, v33]]) H locs := hw1
  refine lv_aload_n hx hb d_M_forget_5 rfl (lv_at hl 0 rfl) ?_
  refine lv_iconst (v := nI 0) hx hb d_M_forget_6 rfl ?_
  refine p_M_85 hx hb hts hown hK hw 0 rfl (Nat.le_of_ble_eq_true rfl) d_M_forget_7 (fun H locs hw1 => ?_)
  replace hw : WW G A zs ([oM h0 [v0, v1, v2, v3, v4, v5, v6, v7, v8, v9, v10, v11, v12, v13, v14, .int (nI 0), .int (nI 0), v17, v18, v19, v20, v21, v22, v23, v24, v25, v26, v27, v28, v29, v30, v31, v32, v33]]) H locs := hw1
  refine lv_aload_n hx hb d_M_forget_10 rfl (lv_at hl 0 rfl) ?_
  refine lv_iconst (v := nI 0) hx hb d_M_forget_11 rfl ?_
  refine p_M_88 hx hb hts hown hK hw 0 rfl (Nat.le_of_ble_eq_true rfl) d_M_forget_12 (fun H locs hw1 => ?_)
  replace hw : WW G A zs ([oM h0 [v0, v1, v2, v3, v4, v5, v6, v7, v8, v9, v10, v11, v12, v13, v14, .int (nI 0), .int (nI 0), .int (nI 0), v18, v19, v20, v21, v22, v23, v24, v25, v26, v27, v28, v29, v30, v31, v32, v33]]) H locs := hw1
  refine lv_aload_n hx hb d_M_forget_15 rfl (lv_at hl 0 rfl) ?_
  refine lv_iconst (v := nI 0) hx hb d_M_forget_16 rfl ?_
  refine p_M_91 hx hb hts hown hK hw 0 rfl (Nat.le_of_ble_eq_true rfl) d_M_forget_17 (fun H locs hw1 => ?_)
  replace hw : WW G A zs ([oM h0 [v0, v1, v2, v3, v4, v5, v6, v7, v8, v9, v10, v11, v12, v13, v14, .int (nI 0), .int (nI 0), .int (nI 0), .int (nI 0), v19, v20, v21, v22, v23, v24, v25, v26, v27, v28, v29, v30, v31, v32, v33]]) H locs := hw1
  refine lv_aload_n hx hb d_M_forget_20 rfl (lv_at hl 0 rfl) ?_
  refine lv_iconst (v := nI 0) hx hb d_M_forget_21 rfl ?_
  refine p_M_94 hx hb hts hown hK hw 0 rfl (Nat.le_of_ble_eq_true rfl) d_M_forget_22 (fun H locs hw1 => ?_)
  replace hw : WW G A zs ([oM h0 [v0, v1, v2, v3, v4, v5, v6, v7, v8, v9, v10, v11, v12, v13, v14, .int (nI 0), .int (nI 0), .int (nI 0), .int (nI 0), .int (nI 0), v20, v21, v22, v23, v24, v25, v26, v27, v28, v29, v30, v31, v32, v33]]) H locs := hw1
  refine lv_aload_n hx hb d_M_forget_25 rfl (lv_at hl 0 rfl) ?_
  refine lv_iconst (v := nI 0) hx hb d_M_forget_26 rfl ?_
  refine p_M_97 hx hb hts hown hK hw 0 rfl (Nat.le_of_ble_eq_true rfl) d_M_forget_27 (fun H locs hw1 => ?_)
  replace hw : WW G A zs ([oM h0 [v0, v1, v2, v3, v4, v5, v6, v7, v8, v9, v10, v11, v12, v13, v14, .int (nI 0), .int (nI 0), .int (nI 0), .int (nI 0), .int (nI 0), .int (nI 0), v21, v22, v23, v24, v25, v26, v27, v28, v29, v30, v31, v32, v33]]) H locs := hw1
  refine lv_aload_n hx hb d_M_forget_30 rfl (lv_at hl 0 rfl) ?_
  refine lv_iconst (v := -1) hx hb d_M_forget_31 (by decide) ?_
  refine p_M_100 hx hb hts hown hK hw 0 rfl (Nat.le_of_ble_eq_true rfl) d_M_forget_32 (fun H locs hw1 => ?_)
  replace hw : WW G A zs ([oM h0 [v0, v1, v2, v3, v4, v5, v6, v7, v8, v9, v10, v11, v12, v13, v14, .int (nI 0), .int (nI 0), .int (nI 0), .int (nI 0), .int (nI 0), .int (nI 0), .int (-1), v22, v23, v24, v25, v26, v27, v28, v29, v30, v31, v32, v33]]) H locs := hw1
  exact r_ret hQ (r_vret () hx hb hr hlk hw trivial (by omega) (by omega) d_M_forget_35)
set_option maxHeartbeats 4000000 in
set_option maxRecDepth 100000 in
theorem c_M_compare (zl : Launch) (G : GG) (qa qb m n : Nat) (f g : Nat → Int32) (a b : Wh) (ha : Vl n a) (hb9 : Vl n b) (hf : Row f 0 a) (hg : Row g 0 b) (hl9 : a.2.length = b.2.length) (hm : m = 5 + b.2.length) : Ctr (S := Unit) vI zl y_M_compare b_M_compare 4 (Option.some Jvm.ClassFile.FieldType.int) 0 0 0 G [.ref qa, .ref qb, .int (nI m)] ([aI G qa 12 f, aI G qb 12 g]) (fun r _ => r = cmpN (pk a) (pk b)) (fun _ => [aI G qa 12 f, aI G qb 12 g]) := by
  refine Ctr.start (by decide) (Nat.le_of_ble_eq_true rfl) ?_
  intro zp ze zs zm below meth zc A ls C0 hin hK hA hl hw
  obtain ⟨hx, hb, hr, hlk, hml, hown, hts⟩ := C0
  obtain ⟨R, hRR⟩ : ∃ R : Room, R = rmL 0 0 0 := ⟨_, rfl⟩
  have hRf : R.frames = 0 := by rw [hRR]
  have hRl : R.locals = 64 * 0 := by rw [hRR]
  have hRc : R.cells = 0 := by rw [hRR]
  have hRs : R.slots = 0 := by rw [hRR]
  rw [← hRR]; clear hRR
  generalize hQ : MQ below _ _ zs _ _ A = Q
  generalize hAr : List.toArray _ = args at hts hQ ⊢
  replace hl : lv_has ls 4 [(0, .ref qa), (1, .ref qb), (2, .int (nI m))] := hl
  obtain ⟨H, eH⟩ : ∃ H : Heap, H = zs.heap := ⟨_, rfl⟩
  obtain ⟨locs, eL⟩ : ∃ l0 : List Loc, l0 = [] := ⟨_, rfl⟩
  rw [← eH, ← eL] at hw ⊢; clear eH eL
  have hla := ha.2.2.2.1
  refine lv_iconst (v := nI 0) hx hb d_M_compare_0 rfl ?_
  refine lv_istore_n (lv' := [(3, .int (nI 0)), (0, .ref qa), (1, .ref qb), (2, .int (nI m))]) hx hb d_M_compare_1 rfl hl (by decide) rfl (fun ls hl => ?_)
  have Lp2 : ∀ N_2 : Nat, ∀ (k : Nat), (k ≤ m) → (∀ i, i < k → dg a i = dg b i) → m - k < N_2 → ∀ (H : Heap) (locs : List Loc) (ls : Array Slot), lv_has ls 4 [(0, .ref qa), (1, .ref qb), (2, .int (nI m)), (3, .int (nI k))] → WW G A zs ([aI G qa 12 f, aI G qb 12 g]) H locs → W zp zl ze R zs zm args below meth zc H locs 0 0 Q (F0 zm 2 ls []) := by
    intro N_2
    induction N_2 with
    | zero => intros; omega
    | succ N_2 ih_2 =>
      intro k hk he hN_2 H locs ls hl hw
      refine lv_iload_n hx hb d_M_compare_2 rfl (lv_at hl 3 rfl) ?_
      refine lv_iload_n hx hb d_M_compare_3 rfl (lv_at hl 2 rfl) ?_
      refine r_icmp_ge (tgt := 37) hx hb (by omega) (by omega) d_M_compare_4 (by decide) (fun c_4 => ?_) (fun c_4 => ?_)
      · skip
        refine lv_iconst (v := nI 0) hx hb d_M_compare_37 rfl ?_
        exact r_ret hQ (r_iret () hx hb hr hlk hw (cmp_eq (by rw [row_eq ha hb9 (fun i hi => he i (by omega))])) (by omega) (by omega) d_M_compare_38)
      · skip
        have hda := ha.dg128 k
        have hdb := hb9.dg128 k
        refine lv_aload_n hx hb d_M_compare_7 rfl (lv_at hl 0 rfl) ?_
        refine lv_iload_n hx hb d_M_compare_8 rfl (lv_at hl 3 rfl) ?_
        refine r_iald hx hb hK hw 0 rfl (by omega) (by omega) d_M_compare_9 ?_
        refine r_eq (show f k = nI (dg a k) from by have := hf k (by omega); rwa [Nat.zero_add] at this) ?_
        refine lv_aload_n hx hb d_M_compare_10 rfl (lv_at hl 1 rfl) ?_
        refine lv_iload_n hx hb d_M_compare_11 rfl (lv_at hl 3 rfl) ?_
        refine r_iald hx hb hK hw 1 rfl (by omega) (by omega) d_M_compare_12 ?_
        refine r_eq (show g k = nI (dg b k) from by have := hg k (by omega); rwa [Nat.zero_add] at this) ?_
        refine r_icmp_eq (tgt := 31) hx hb (by omega) (by omega) d_M_compare_13 (by decide) (fun c_13 => ?_) (fun c_13 => ?_)
        · skip
          refine r_iincN (n := 1) (lv' := [(3, .int (nI (k + 1))), (0, .ref qa), (1, .ref qb), (2, .int (nI m))]) hx hb d_M_compare_31 hl (k := 3) rfl (by decide) rfl (fun ls hl => ?_)
          refine lv_goto (tgt := 2) hx hb d_M_compare_34 (by decide) ?_
          exact ih_2 (k + 1) (by omega) (fun i hi => by by_cases hz : i = k; rw [hz]; exact c_13; exact he i (by omega)) (by omega) _ _ _ (lv_sub hl [1, 2, 3, 0] rfl) hw
        · skip
          refine lv_aload_n hx hb d_M_compare_16 rfl (lv_at hl 0 rfl) ?_
          refine lv_iload_n hx hb d_M_compare_17 rfl (lv_at hl 3 rfl) ?_
          refine r_iald hx hb hK hw 0 rfl (by omega) (by omega) d_M_compare_18 ?_
          refine r_eq (show f k = nI (dg a k) from by have := hf k (by omega); rwa [Nat.zero_add] at this) ?_
          refine lv_aload_n hx hb d_M_compare_19 rfl (lv_at hl 1 rfl) ?_
          refine lv_iload_n hx hb d_M_compare_20 rfl (lv_at hl 3 rfl) ?_
          refine r_iald hx hb hK hw 1 rfl (by omega) (by omega) d_M_compare_21 ?_
          refine r_eq (show g k = nI (dg b k) from by have := hg k (by omega); rwa [Nat.zero_add] at this) ?_
          refine r_icmp_ge (tgt := 29) hx hb (by omega) (by omega) d_M_compare_22 (by decide) (fun c_22 => ?_) (fun c_22 => ?_)
          · skip
            refine lv_iconst (v := nI 1) hx hb d_M_compare_29 rfl ?_
            exact r_ret hQ (r_iret () hx hb hr hlk hw (cmp_gt (pk_less hb9 ha (by omega) (fun i hi => (he i hi).symm) (by omega))) (by omega) (by omega) d_M_compare_30)
          · skip
            refine lv_iconst (v := -1) hx hb d_M_compare_25 (by decide) ?_
            refine lv_goto (tgt := 30) hx hb d_M_compare_26 (by decide) ?_
            exact r_ret hQ (r_iret () hx hb hr hlk hw (cmp_lt (pk_less ha hb9 (by omega) he (by omega))) (by omega) (by omega) d_M_compare_30)
  exact Lp2 _ 0 (by omega) (fun i hi => absurd hi (Nat.not_lt_zero _)) (Nat.lt_succ_self _) _ _ _ (lv_sub hl [1, 2, 3, 0] rfl) hw
set_option maxHeartbeats 4000000 in
set_option maxRecDepth 100000 in
theorem c_M_number (zl : Launch) (G : GG) (h0 qn qx qo n p : Nat) (v0 v2 v3 v4 v5 v6 v7 v8 v9 v10 v11 v12 v14 v15 v16 v17 v18 v19 v20 v21 v22 v23 v24 v25 v26 v27 v28 v31 v32 v33 : Value) (fn fx fo : Nat → Int32) (ps : List (List Nat)) (w : Wh) (hV : Vl n w) (hn4 : n ≤ 4) (hp9 : p < ps.length) (h24 : ps.length ≤ 24) (hPm : ∀ π ∈ ps, Pm n π) (hnum : ∀ k, k < ps.length → ∀ i, i < n → fn (4 * k + i) = nI ((ps.getD k []).getD i 0)) (hx9 : Row fx 0 w) : Ctr (S := Nat → Int32) vV zl y_M_number b_M_number 4 (Option.none : Option Jvm.ClassFile.FieldType) 1 0 0 G [.ref h0, .int (nI p)] ([oM h0 [v0, .int (nI n), v2, v3, v4, v5, v6, v7, v8, v9, v10, v11, v12, .ref qn, v14, v15, v16, v17, v18, v19, v20, v21, v22, v23, v24, v25, v26, v27, v28, .ref qx, .ref qo, v31, v32, v33], aI G qn 96 fn, aI G qx 12 fx, aI G qo 12 fo]) (fun _ g => Row g 0 (trn (ps.getD p []) w)) (fun g => [oM h0 [v0, .int (nI n), v2, v3, v4, v5, v6, v7, v8, v9, v10, v11, v12, .ref qn, v14, v15, v16, v17, v18, v19, v20, v21, v22, v23, v24, v25, v26, v27, v28, .ref qx, .ref qo, v31, v32, v33], aI G qn 96 fn, aI G qx 12 fx, aI G qo 12 g]) := by
  refine Ctr.start (by decide) (Nat.le_of_ble_eq_true rfl) ?_
  intro zp ze zs zm below meth zc A ls C0 hin hK hA hl hw
  obtain ⟨hx, hb, hr, hlk, hml, hown, hts⟩ := C0
  obtain ⟨R, hRR⟩ : ∃ R : Room, R = rmL 1 0 0 := ⟨_, rfl⟩
  have hRf : R.frames = 1 := by rw [hRR]
  have hRl : R.locals = 64 * 1 := by rw [hRR]
  have hRc : R.cells = 0 := by rw [hRR]
  have hRs : R.slots = 0 := by rw [hRR]
  rw [← hRR]; clear hRR
  generalize hQ : MQ below _ _ zs _ _ A = Q
  generalize hAr : List.toArray _ = args at hts hQ ⊢
  replace hl : lv_has ls 4 [(0, .ref h0), (1, .int (nI p))] := hl
  obtain ⟨H, eH⟩ : ∃ H : Heap, H = zs.heap := ⟨_, rfl⟩
  obtain ⟨locs, eL⟩ : ∃ l0 : List Loc, l0 = [] := ⟨_, rfl⟩
  rw [← eH, ← eL] at hw ⊢; clear eH eL
  have hlw := hV.2.2.2.1
  have hP := hPm (ps.getD p []) (getD_mem hp9)
  refine lv_iconst (v := nI 0) hx hb d_M_number_0 rfl ?_
  refine lv_istore_n (lv' := [(2, .int (nI 0)), (0, .ref h0), (1, .int (nI p))]) hx hb d_M_number_1 rfl hl (by decide) rfl (fun ls hl => ?_)
  have Lp2 : ∀ N_2 : Nat, ∀ (k : Nat) (fo : Nat → Int32), (k ≤ 5) → (∀ i, i < k → fo i = nI 0) → 5 - k < N_2 → ∀ (H : Heap) (locs : List Loc) (ls : Array Slot), lv_has ls 4 [(0, .ref h0), (1, .int (nI p)), (2, .int (nI k))] → WW G A zs ([oM h0 [v0, .int (nI n), v2, v3, v4, v5, v6, v7, v8, v9, v10, v11, v12, .ref qn, v14, v15, v16, v17, v18, v19, v20, v21, v22, v23, v24, v25, v26, v27, v28, .ref qx, .ref qo, v31, v32, v33], aI G qn 96 fn, aI G qx 12 fx, aI G qo 12 fo]) H locs → W zp zl ze R zs zm args below meth zc H locs 0 0 Q (F0 zm 2 ls []) := by
    intro N_2
    induction N_2 with
    | zero => intros; omega
    | succ N_2 ih_2 =>
      intro k fo hk h0k hN_2 H locs ls hl hw
      refine lv_iload_n hx hb d_M_number_2 rfl (lv_at hl 2 rfl) ?_
      refine lv_iconst (v := nI 5) hx hb d_M_number_3 rfl ?_
      refine r_icmp_ge (tgt := 20) hx hb (by omega) (by omega) d_M_number_4 (by decide) (fun c_4 => ?_) (fun c_4 => ?_)
      · skip
        refine lv_iconst (v := nI 0) hx hb d_M_number_20 rfl ?_
        refine lv_istore_n (lv' := [(2, .int (nI 0)), (0, .ref h0), (1, .int (nI p))]) hx hb d_M_number_21 rfl hl (by decide) rfl (fun ls hl => ?_)
        have Lp22 : ∀ N_22 : Nat, ∀ (k : Nat) (fo : Nat → Int32), (k ≤ n) → ((∀ i, i < k → fo ((ps.getD p []).getD i 0) = nI (dg w i)) ∧ (∀ j, n ≤ j → j < 5 → fo j = nI 0)) → n - k < N_22 → ∀ (H : Heap) (locs : List Loc) (ls : Array Slot), lv_has ls 4 [(0, .ref h0), (1, .int (nI p)), (2, .int (nI k))] → WW G A zs ([oM h0 [v0, .int (nI n), v2, v3, v4, v5, v6, v7, v8, v9, v10, v11, v12, .ref qn, v14, v15, v16, v17, v18, v19, v20, v21, v22, v23, v24, v25, v26, v27, v28, .ref qx, .ref qo, v31, v32, v33], aI G qn 96 fn, aI G qx 12 fx, aI G qo 12 fo]) H locs → W zp zl ze R zs zm args below meth zc H locs 0 0 Q (F0 zm 22 ls []) := by
          intro N_22
          induction N_22 with
          | zero => intros; omega
          | succ N_22 ih_22 =>
            intro k fo hk2 hst hN_22 H locs ls hl hw
            refine lv_iload_n hx hb d_M_number_22 rfl (lv_at hl 2 rfl) ?_
            refine lv_aload_n hx hb d_M_number_23 rfl (lv_at hl 0 rfl) ?_
            refine g_M_70 hx hb hts hown hK hw 0 rfl rfl d_M_number_24 ?_
            refine r_icmp_ge (tgt := 57) hx hb (by omega) (by omega) d_M_number_27 (by decide) (fun c_27 => ?_) (fun c_27 => ?_)
            · skip
              refine lv_iconst (v := nI 0) hx hb d_M_number_57 rfl ?_
              refine lv_istore_n (lv' := [(2, .int (nI 0)), (0, .ref h0), (1, .int (nI p))]) hx hb d_M_number_58 rfl hl (by decide) rfl (fun ls hl => ?_)
              have Lp59 : ∀ N_59 : Nat, ∀ (k : Nat) (fo : Nat → Int32), (k ≤ w.2.length) → ((∀ j, j < 4 → fo j = nI (dg (trn (ps.getD p []) w) j)) ∧ fo 4 = nI (tcs (ps.getD p []) w.2 k).length ∧ Cds fo 5 (tcs (ps.getD p []) w.2 k)) → w.2.length - k < N_59 → ∀ (H : Heap) (locs : List Loc) (ls : Array Slot), lv_has ls 4 [(0, .ref h0), (1, .int (nI p)), (2, .int (nI k))] → WW G A zs ([oM h0 [v0, .int (nI n), v2, v3, v4, v5, v6, v7, v8, v9, v10, v11, v12, .ref qn, v14, v15, v16, v17, v18, v19, v20, v21, v22, v23, v24, v25, v26, v27, v28, .ref qx, .ref qo, v31, v32, v33], aI G qn 96 fn, aI G qx 12 fx, aI G qo 12 fo]) H locs → W zp zl ze R zs zm args below meth zc H locs 0 0 Q (F0 zm 59 ls []) := by
                intro N_59
                induction N_59 with
                | zero => intros; omega
                | succ N_59 ih_59 =>
                  intro k fo hk3 hs3 hN_59 H locs ls hl hw
                  have hbt := tcs_len (π := (ps.getD p [])) hk3
                  refine lv_iload_n hx hb d_M_number_59 rfl (lv_at hl 2 rfl) ?_
                  refine lv_aload_n hx hb d_M_number_60 rfl (lv_at hl 0 rfl) ?_
                  refine g_M_61 hx hb hts hown hK hw 0 rfl rfl d_M_number_61 ?_
                  refine lv_iconst (v := nI 4) hx hb d_M_number_64 rfl ?_
                  refine r_iald hx hb hK hw 2 rfl (by omega) (by omega) d_M_number_65 ?_
                  refine r_eq (show fx 4 = nI w.2.length from hx9.n) ?_
                  refine r_icmp_ge (tgt := 129) hx hb (by omega) (by omega) d_M_number_66 (by decide) (fun c_66 => ?_) (fun c_66 => ?_)
                  · skip
                    exact r_ret hQ (r_vret fo hx hb hr hlk hw (Row.mk (fun i hi => by rw [Nat.zero_add]; exact hs3.1 i hi) (by rw [Nat.zero_add, hs3.2.1, trn_len, hbt]; exact congrArg nI (by omega)) (fun i hi => by rw [Nat.zero_add]; have hz := hs3.2.2; rw [show k = w.2.length by omega, tcs_all] at hz; exact hz i hi)) (by omega) (by omega) d_M_number_129)
                  · skip
                    have hb1 := hV.at c_66
                    have hb2 := hP.2.2.2.1 _ hb1.2.2
                    have hb3 := hP.2.2.2.1 _ hb1.2.1
                    refine lv_aload_n hx hb d_M_number_69 rfl (lv_at hl 0 rfl) ?_
                    refine g_M_61 hx hb hts hown hK hw 0 rfl rfl d_M_number_70 ?_
                    refine lv_iconst (v := nI 5) hx hb d_M_number_73 rfl ?_
                    refine lv_iload_n hx hb d_M_number_74 rfl (lv_at hl 2 rfl) ?_
                    refine r_iaddN hx hb d_M_number_75 ?_
                    refine r_iald hx hb hK hw 2 rfl (by omega) (by omega) d_M_number_76 ?_
                    refine r_eq (show fx (5 + k) = nI (w.2.getD k 0) from hx9.cds k c_66) ?_
                    refine lv_istore_n (lv' := [(3, .int (nI (w.2.getD k 0))), (0, .ref h0), (1, .int (nI p)), (2, .int (nI k))]) hx hb d_M_number_77 rfl hl (by decide) rfl (fun ls hl => ?_)
                    refine lv_aload_n hx hb d_M_number_78 rfl (lv_at hl 1 rfl) ?_
                    refine lv_aload_n hx hb d_M_number_79 rfl (lv_at hl 1 rfl) ?_
                    refine g_M_64 hx hb hts hown hK hw 0 rfl rfl d_M_number_80 ?_
                    refine lv_bipush (v := nI 16) hx hb d_M_number_83 (by decide) ?_
                    refine lv_iload_n hx hb d_M_number_85 rfl (lv_at hl 0 rfl) ?_
                    refine lv_bipush (v := nI 16) hx hb d_M_number_86 (by decide) ?_
                    refine r_idivN hx hb (by omega) (by omega) (by omega) d_M_number_88 ?_
                    refine r_imulN hx hb d_M_number_89 ?_
                    refine lv_iconst (v := nI 4) hx hb d_M_number_90 rfl ?_
                    refine lv_aload_n hx hb d_M_number_91 rfl (lv_at hl 1 rfl) ?_
                    refine g_M_36 hx hb hts hown hK hw 0 rfl rfl d_M_number_92 ?_
                    refine lv_iconst (v := nI 4) hx hb d_M_number_95 rfl ?_
                    refine lv_iload_n hx hb d_M_number_96 rfl (lv_at hl 2 rfl) ?_
                    refine r_imulN hx hb d_M_number_97 ?_
                    refine lv_iload_n hx hb d_M_number_98 rfl (lv_at hl 0 rfl) ?_
                    refine lv_iconst (v := nI 4) hx hb d_M_number_99 rfl ?_
                    refine r_idivN hx hb (by omega) (by omega) (by omega) d_M_number_100 ?_
                    refine lv_iconst (v := nI 4) hx hb d_M_number_101 rfl ?_
                    refine r_iremN hx hb (by omega) (by omega) (by omega) d_M_number_102 ?_
                    refine r_iaddN hx hb d_M_number_103 ?_
                    refine r_iald hx hb hK hw 1 rfl (by omega) (by omega) d_M_number_104 ?_
                    refine r_eq (show fn ((4 * p) + (((w.2.getD k 0) / 4) % 4)) = nI ((ps.getD p []).getD (w.2.getD k 0 / 4 % 4) 0) from hnum p hp9 _ hb1.2.2) ?_
                    refine r_imulN hx hb d_M_number_105 ?_
                    refine r_iaddN hx hb d_M_number_106 ?_
                    refine lv_aload_n hx hb d_M_number_107 rfl (lv_at hl 1 rfl) ?_
                    refine g_M_36 hx hb hts hown hK hw 0 rfl rfl d_M_number_108 ?_
                    refine lv_iconst (v := nI 4) hx hb d_M_number_111 rfl ?_
                    refine lv_iload_n hx hb d_M_number_112 rfl (lv_at hl 2 rfl) ?_
                    refine r_imulN hx hb d_M_number_113 ?_
                    refine lv_iload_n hx hb d_M_number_114 rfl (lv_at hl 0 rfl) ?_
                    refine lv_iconst (v := nI 4) hx hb d_M_number_115 rfl ?_
                    refine r_iremN hx hb (by omega) (by omega) (by omega) d_M_number_116 ?_
                    refine r_iaddN hx hb d_M_number_117 ?_
                    refine r_iald hx hb hK hw 1 rfl (by omega) (by omega) d_M_number_118 ?_
                    refine r_eq (show fn ((4 * p) + ((w.2.getD k 0) % 4)) = nI ((ps.getD p []).getD (w.2.getD k 0 % 4) 0) from hnum p hp9 _ hb1.2.1) ?_
                    refine r_iaddN hx hb d_M_number_119 ?_
                    refine r_eq (show nI (((16 * ((w.2.getD k 0) / 16)) + (4 * ((ps.getD p []).getD (w.2.getD k 0 / 4 % 4) 0))) + ((ps.getD p []).getD (w.2.getD k 0 % 4) 0)) = nI (tc (ps.getD p []) (w.2.getD k 0)) from congrArg nI (by unfold tc; omega)) ?_
                    refine xV_v (rest := []) (As := [.ref qo, .int (nI (tc (ps.getD p []) (w.2.getD k 0)))]) hx hb hml hown hts hK hA hw k_M_120 (c_M_add zl G h0 qo (tc (ps.getD p []) (w.2.getD k 0)) [v0, .int (nI n), v2, v3, v4, v5, v6, v7, v8, v9, v10, v11, v12, .ref qn, v14, v15, v16, v17, v18, v19, v20, v21, v22, v23, v24, v25, v26, v27, v28, .ref qx, .ref qo, v31, v32, v33] fo (tcs (ps.getD p []) w.2 k) (fins_srt _) (by omega) (tcs_cb hP hV hn4 k) (tc_ok hP hb1 hn4).1 hs3.2.1 hs3.2.2) ([0, 3]) rfl rfl (fun _ => Nat.le_of_ble_eq_true rfl) 0 rfl rfl rfl rfl hl.1 (Nat.le_of_ble_eq_true rfl) ⟨(by omega), (by omega)⟩ ⟨(by omega), (by omega)⟩ d_M_number_120 (fun _ g2 H locs hp hw1 => ?_)
                    refine W.cs (cells' := 0) (slots' := 0) rfl rfl ?_
                    replace hw : WW G A zs ([oM h0 [v0, .int (nI n), v2, v3, v4, v5, v6, v7, v8, v9, v10, v11, v12, .ref qn, v14, v15, v16, v17, v18, v19, v20, v21, v22, v23, v24, v25, v26, v27, v28, .ref qx, .ref qo, v31, v32, v33], aI G qn 96 fn, aI G qx 12 fx, aI G qo 12 g2]) H locs := hw1
                    refine r_iincN (n := 1) (lv' := [(2, .int (nI (k + 1))), (3, .int (nI (w.2.getD k 0))), (0, .ref h0), (1, .int (nI p))]) hx hb d_M_number_123 hl (k := 3) rfl (by decide) rfl (fun ls hl => ?_)
                    refine lv_goto (tgt := 59) hx hb d_M_number_126 (by decide) ?_
                    exact ih_59 (k + 1) g2 (by omega) ⟨fun j hj => by rw [hp.1 j hj]; exact hs3.1 j hj, by rw [hp.2.1, tcs_succ c_66, ins_len], by rw [tcs_succ c_66]; exact hp.2.2⟩ (by omega) _ _ _ (lv_sub hl [2, 3, 0] rfl) hw
              exact Lp59 _ 0 fo (by omega) ⟨num_st hP hV hn4 hst.1 (fun j a b => hst.2 j a (by omega)) (by omega), hst.2 4 hn4 (by decide), fun i hi => absurd hi (Nat.not_lt_zero _)⟩ (Nat.lt_succ_self _) _ _ _ (lv_sub hl [1, 2, 0] rfl) hw
            · skip
              refine lv_aload_n hx hb d_M_number_30 rfl (lv_at hl 0 rfl) ?_
              refine g_M_64 hx hb hts hown hK hw 0 rfl rfl d_M_number_31 ?_
              have hπk := hP.2.2.2.1 k c_27
              refine lv_aload_n hx hb d_M_number_34 rfl (lv_at hl 0 rfl) ?_
              refine g_M_36 hx hb hts hown hK hw 0 rfl rfl d_M_number_35 ?_
              refine lv_iconst (v := nI 4) hx hb d_M_number_38 rfl ?_
              refine lv_iload_n hx hb d_M_number_39 rfl (lv_at hl 1 rfl) ?_
              refine r_imulN hx hb d_M_number_40 ?_
              refine lv_iload_n hx hb d_M_number_41 rfl (lv_at hl 2 rfl) ?_
              refine r_iaddN hx hb d_M_number_42 ?_
              refine r_iald hx hb hK hw 1 rfl (by omega) (by omega) d_M_number_43 ?_
              refine r_eq (show fn ((4 * p) + k) = nI ((ps.getD p []).getD k 0) from hnum p hp9 k c_27) ?_
              refine lv_aload_n hx hb d_M_number_44 rfl (lv_at hl 0 rfl) ?_
              refine g_M_61 hx hb hts hown hK hw 0 rfl rfl d_M_number_45 ?_
              refine lv_iload_n hx hb d_M_number_48 rfl (lv_at hl 2 rfl) ?_
              refine r_iald hx hb hK hw 2 rfl (by omega) (by omega) d_M_number_49 ?_
              refine r_eq (show fx k = nI (dg w k) from by have := hx9.st (i := k) (by omega); rwa [Nat.zero_add] at this) ?_
              refine r_iast hx hb hK hw 3 rfl (by omega) (by omega) d_M_number_50 (fun H locs hw1 => ?_)
              replace hw : WW G A zs ([oM h0 [v0, .int (nI n), v2, v3, v4, v5, v6, v7, v8, v9, v10, v11, v12, .ref qn, v14, v15, v16, v17, v18, v19, v20, v21, v22, v23, v24, v25, v26, v27, v28, .ref qx, .ref qo, v31, v32, v33], aI G qn 96 fn, aI G qx 12 fx, aI G qo 12 (upd fo ((ps.getD p []).getD k 0) (nI (dg w k)))]) H locs := hw1
              refine r_iincN (n := 1) (lv' := [(2, .int (nI (k + 1))), (0, .ref h0), (1, .int (nI p))]) hx hb d_M_number_51 hl (k := 2) rfl (by decide) rfl (fun ls hl => ?_)
              refine lv_goto (tgt := 22) hx hb d_M_number_54 (by decide) ?_
              exact ih_22 (k + 1) (upd fo ((ps.getD p []).getD k 0) (nI (dg w k))) (by omega) (num_step hP hn4 c_27 hst.1 hst.2) (by omega) _ _ _ (lv_sub hl [1, 2, 0] rfl) hw
        exact Lp22 _ 0 fo (by omega) ⟨fun i hi => absurd hi (Nat.not_lt_zero _), fun j _ hj => h0k j (by omega)⟩ (Nat.lt_succ_self _) _ _ _ (lv_sub hl [1, 2, 0] rfl) hw
      · skip
        refine lv_aload_n hx hb d_M_number_7 rfl (lv_at hl 0 rfl) ?_
        refine g_M_64 hx hb hts hown hK hw 0 rfl rfl d_M_number_8 ?_
        refine lv_iload_n hx hb d_M_number_11 rfl (lv_at hl 2 rfl) ?_
        refine lv_iconst (v := nI 0) hx hb d_M_number_12 rfl ?_
        refine r_iast hx hb hK hw 3 rfl (by omega) (by omega) d_M_number_13 (fun H locs hw1 => ?_)
        replace hw : WW G A zs ([oM h0 [v0, .int (nI n), v2, v3, v4, v5, v6, v7, v8, v9, v10, v11, v12, .ref qn, v14, v15, v16, v17, v18, v19, v20, v21, v22, v23, v24, v25, v26, v27, v28, .ref qx, .ref qo, v31, v32, v33], aI G qn 96 fn, aI G qx 12 fx, aI G qo 12 (upd fo k (nI 0))]) H locs := hw1
        refine r_iincN (n := 1) (lv' := [(2, .int (nI (k + 1))), (0, .ref h0), (1, .int (nI p))]) hx hb d_M_number_14 hl (k := 2) rfl (by decide) rfl (fun ls hl => ?_)
        refine lv_goto (tgt := 2) hx hb d_M_number_17 (by decide) ?_
        exact ih_2 (k + 1) (upd fo k (nI 0)) (by omega) (upd_lt (g := fun _ => nI 0) h0k rfl) (by omega) _ _ _ (lv_sub hl [1, 2, 0] rfl) hw
  exact Lp2 _ 0 fo (by omega) (fun i hi => absurd hi (Nat.not_lt_zero _)) (Nat.lt_succ_self _) _ _ _ (lv_sub hl [1, 2, 0] rfl) hw
set_option maxHeartbeats 4000000 in
set_option maxRecDepth 100000 in
theorem c_M_form (zl : Launch) (G : GG) (h0 qn qx qo ql n : Nat) (v0 v2 v3 v4 v5 v6 v7 v8 v9 v10 v11 v12 v15 v16 v17 v18 v19 v20 v21 v22 v23 v24 v25 v26 v27 v28 v32 v33 : Value) (fn fx fo fl : Nat → Int32) (ps pm : List (List Nat)) (w : Wh) (hV : Vl n w) (hn4 : n ≤ 4) (h00 : 0 < pm.length) (h24 : pm.length ≤ 24) (hPm : ∀ π ∈ pm, Pm n π) (hnum : ∀ k, k < pm.length → ∀ i, i < n → fn (4 * k + i) = nI ((pm.getD k []).getD i 0)) (hx9 : Row fx 0 w) (hfe : ∀ w, Vl n w → frm pm w = frm ps w) : Ctr (S := Nat × (Nat → Int32) × (Nat → Int32)) vV zl y_M_form b_M_form 4 (Option.none : Option Jvm.ClassFile.FieldType) 2 0 0 G [.ref h0] ([oM h0 [v0, .int (nI n), v2, v3, v4, v5, v6, v7, v8, v9, v10, v11, v12, .ref qn, .int (nI pm.length), v15, v16, v17, v18, v19, v20, v21, v22, v23, v24, v25, v26, v27, v28, .ref qx, .ref qo, .ref ql, v32, v33], aI G qn 96 fn, aI G qx 12 fx, aI G qo 12 fo, aI G ql 12 fl]) (fun _ u => u.1 = (frm ps w).2 ∧ Row u.2.2 0 (frm ps w).1) (fun u => [oM h0 [v0, .int (nI n), v2, v3, v4, v5, v6, v7, v8, v9, v10, v11, v12, .ref qn, .int (nI pm.length), v15, v16, v17, v18, v19, v20, v21, v22, v23, v24, v25, v26, v27, v28, .ref qx, .ref qo, .ref ql, .int (nI u.1), v33], aI G qn 96 fn, aI G qx 12 fx, aI G qo 12 u.2.1, aI G ql 12 u.2.2]) := by
  refine Ctr.start (by decide) (Nat.le_of_ble_eq_true rfl) ?_
  intro zp ze zs zm below meth zc A ls C0 hin hK hA hl hw
  obtain ⟨hx, hb, hr, hlk, hml, hown, hts⟩ := C0
  obtain ⟨R, hRR⟩ : ∃ R : Room, R = rmL 2 0 0 := ⟨_, rfl⟩
  have hRf : R.frames = 2 := by rw [hRR]
  have hRl : R.locals = 64 * 2 := by rw [hRR]
  have hRc : R.cells = 0 := by rw [hRR]
  have hRs : R.slots = 0 := by rw [hRR]
  rw [← hRR]; clear hRR
  generalize hQ : MQ below _ _ zs _ _ A = Q
  generalize hAr : List.toArray _ = args at hts hQ ⊢
  replace hl : lv_has ls 4 [(0, .ref h0)] := hl
  obtain ⟨H, eH⟩ : ∃ H : Heap, H = zs.heap := ⟨_, rfl⟩
  obtain ⟨locs, eL⟩ : ∃ l0 : List Loc, l0 = [] := ⟨_, rfl⟩
  rw [← eH, ← eL] at hw ⊢; clear eH eL
  have hlw := hV.2.2.2.1
  refine lv_aload_n hx hb d_M_form_0 rfl (lv_at hl 0 rfl) ?_
  refine lv_iconst (v := nI 0) hx hb d_M_form_1 rfl ?_
  refine p_M_124 hx hb hts hown hK hw 0 rfl (Nat.le_of_ble_eq_true rfl) d_M_form_2 (fun H locs hw1 => ?_)
  replace hw : WW G A zs ([oM h0 [v0, .int (nI n), v2, v3, v4, v5, v6, v7, v8, v9, v10, v11, v12, .ref qn, .int (nI pm.length), v15, v16, v17, v18, v19, v20, v21, v22, v23, v24, v25, v26, v27, v28, .ref qx, .ref qo, .ref ql, .int (nI 0), v33], aI G qn 96 fn, aI G qx 12 fx, aI G qo 12 fo, aI G ql 12 fl]) H locs := hw1
  refine lv_iconst (v := nI 0) hx hb d_M_form_5 rfl ?_
  refine lv_istore_n (lv' := [(1, .int (nI 0)), (0, .ref h0)]) hx hb d_M_form_6 rfl hl (by decide) rfl (fun ls hl => ?_)
  have Lp7 : ∀ N_7 : Nat, ∀ (p : Nat) (b : Wh) (sc : Nat) (fo : Nat → Int32) (fl : Nat → Int32), (p ≤ pm.length) → (FI pm w p b sc) → (p = 0 ∨ (Row fl 0 b ∧ Vl n b ∧ b.2.length = w.2.length)) → pm.length - p < N_7 → ∀ (H : Heap) (locs : List Loc) (ls : Array Slot), lv_has ls 4 [(0, .ref h0), (1, .int (nI p))] → WW G A zs ([oM h0 [v0, .int (nI n), v2, v3, v4, v5, v6, v7, v8, v9, v10, v11, v12, .ref qn, .int (nI pm.length), v15, v16, v17, v18, v19, v20, v21, v22, v23, v24, v25, v26, v27, v28, .ref qx, .ref qo, .ref ql, .int (nI sc), v33], aI G qn 96 fn, aI G qx 12 fx, aI G qo 12 fo, aI G ql 12 fl]) H locs → W zp zl ze R zs zm args below meth zc H locs 0 0 Q (F0 zm 7 ls []) := by
    intro N_7
    induction N_7 with
    | zero => intros; omega
    | succ N_7 ih_7 =>
      intro p b sc fo fl hp9 hF hfl hN_7 H locs ls hl hw
      have hsc := hF.len
      refine lv_iload_n hx hb d_M_form_7 rfl (lv_at hl 1 rfl) ?_
      refine lv_aload_n hx hb d_M_form_8 rfl (lv_at hl 0 rfl) ?_
      refine g_M_76 hx hb hts hown hK hw 0 rfl rfl d_M_form_9 ?_
      refine r_icmp_ge (tgt := 113) hx hb (by omega) (by omega) d_M_form_12 (by decide) (fun c_12 => ?_) (fun c_12 => ?_)
      · skip
        exact r_ret hQ (r_vret (sc, fo, fl) hx hb hr hlk hw (formM_fin hF hfl h00 (by omega) (hfe w hV)) (by omega) (by omega) d_M_form_113)
      · skip
        have hP := hPm (pm.getD p []) (getD_mem c_12)
        have hvt := trn_ok hP hV hn4
        refine lv_aload_n hx hb d_M_form_15 rfl (lv_at hl 0 rfl) ?_
        refine lv_iload_n hx hb d_M_form_16 rfl (lv_at hl 1 rfl) ?_
        refine xV_v (rest := []) (As := [.int (nI p)]) hx hb hml hown hts hK hA hw k_M_127 (c_M_number zl G h0 qn qx qo n p v0 v2 v3 v4 v5 v6 v7 v8 v9 v10 v11 v12 (.int (nI pm.length)) v15 v16 v17 v18 v19 v20 v21 v22 v23 v24 v25 v26 v27 v28 (.ref ql) (.int (nI sc)) v33 fn fx fo pm w hV hn4 c_12 h24 hPm hnum hx9) ([0, 1, 2, 3]) rfl rfl (fun _ => Nat.le_of_ble_eq_true rfl) 0 rfl rfl rfl rfl hl.1 (Nat.le_of_ble_eq_true rfl) ⟨(by omega), (by omega)⟩ ⟨(by omega), (by omega)⟩ d_M_form_17 (fun _ fo2 H locs hp hw1 => ?_)
        have hro := hp
        refine W.cs (cells' := 0) (slots' := 0) rfl rfl ?_
        replace hw : WW G A zs ([oM h0 [v0, .int (nI n), v2, v3, v4, v5, v6, v7, v8, v9, v10, v11, v12, .ref qn, .int (nI pm.length), v15, v16, v17, v18, v19, v20, v21, v22, v23, v24, v25, v26, v27, v28, .ref qx, .ref qo, .ref ql, .int (nI sc), v33], aI G qn 96 fn, aI G qx 12 fx, aI G qo 12 fo2, aI G ql 12 fl]) H locs := hw1
        refine lv_iload_n hx hb d_M_form_20 rfl (lv_at hl 1 rfl) ?_
        refine r_if_ne (tgt := 28) hx hb (by omega) d_M_form_21 (by decide) (fun c_21 => ?_) (fun c_21 => ?_)
        · skip
          have hfb := hfl.resolve_left c_21
          have hsc0 : sc ≠ 0 := fun z => by rcases hF with ⟨h1, -⟩ | ⟨h1, -⟩ <;> omega
          refine lv_aload_n hx hb d_M_form_28 rfl (lv_at hl 0 rfl) ?_
          refine g_M_64 hx hb hts hown hK hw 0 rfl rfl d_M_form_29 ?_
          refine lv_aload_n hx hb d_M_form_32 rfl (lv_at hl 0 rfl) ?_
          refine g_M_67 hx hb hts hown hK hw 0 rfl rfl d_M_form_33 ?_
          refine lv_iconst (v := nI 5) hx hb d_M_form_36 rfl ?_
          refine lv_aload_n hx hb d_M_form_37 rfl (lv_at hl 0 rfl) ?_
          refine g_M_61 hx hb hts hown hK hw 0 rfl rfl d_M_form_38 ?_
          refine lv_iconst (v := nI 4) hx hb d_M_form_41 rfl ?_
          refine r_iald hx hb hK hw 2 rfl (by omega) (by omega) d_M_form_42 ?_
          refine r_eq (show fx 4 = nI w.2.length from hx9.n) ?_
          refine r_iaddN hx hb d_M_form_43 ?_
          refine xS_i (rest := []) (As := [.ref qo, .ref ql, .int (nI (5 + w.2.length))]) hx hb hml hown hts hK hA hw k_M_131 (c_M_compare zl G qo ql (5 + w.2.length) n fo2 fl (trn (pm.getD p []) w) b hvt hfb.2.1 hro hfb.1 (by rw [trn_len, hfb.2.2]) (by rw [hfb.2.2])) ([3, 4]) rfl rfl (fun _ => Nat.le_of_ble_eq_true rfl) rfl rfl hl.1 (Nat.le_of_ble_eq_true rfl) ⟨(by omega), (by omega)⟩ ⟨(by omega), (by omega)⟩ d_M_form_44 (fun r u H locs hp hw1 => ?_)
          have hr1 := hp
          refine W.cs (cells' := 0) (slots' := 0) rfl rfl ?_
          replace hw : WW G A zs ([oM h0 [v0, .int (nI n), v2, v3, v4, v5, v6, v7, v8, v9, v10, v11, v12, .ref qn, .int (nI pm.length), v15, v16, v17, v18, v19, v20, v21, v22, v23, v24, v25, v26, v27, v28, .ref qx, .ref qo, .ref ql, .int (nI sc), v33], aI G qn 96 fn, aI G qx 12 fx, aI G qo 12 fo2, aI G ql 12 fl]) H locs := hw1
          refine lv_istore_n (lv' := [(2, .int r), (0, .ref h0), (1, .int (nI p))]) hx hb d_M_form_47 rfl hl (by decide) rfl (fun ls hl => ?_)
          refine lv_iload_n hx hb d_M_form_48 rfl (lv_at hl 0 rfl) ?_
          refine lv_if_ge (tgt := 57) hx hb d_M_form_49 (by decide) (fun c_49 => ?_) (fun c_49 => ?_)
          · skip
            refine lv_iload_n hx hb d_M_form_57 rfl (lv_at hl 0 rfl) ?_
            refine lv_if_gt (tgt := 71) hx hb d_M_form_58 (by decide) (fun c_58 => ?_) (fun c_58 => ?_)
            · skip
              refine lv_iconst (v := nI 0) hx hb d_M_form_71 rfl ?_
              refine lv_istore_n (lv' := [(3, .int (nI 0)), (2, .int r), (0, .ref h0), (1, .int (nI p))]) hx hb d_M_form_72 rfl hl (by decide) rfl (fun ls hl => ?_)
              refine lv_iload_n hx hb d_M_form_73 rfl (lv_at hl 0 rfl) ?_
              refine lv_iconst (v := nI 5) hx hb d_M_form_74 rfl ?_
              refine lv_aload_n hx hb d_M_form_75 rfl (lv_at hl 2 rfl) ?_
              refine g_M_61 hx hb hts hown hK hw 0 rfl rfl d_M_form_76 ?_
              refine lv_iconst (v := nI 4) hx hb d_M_form_79 rfl ?_
              refine r_iald hx hb hK hw 2 rfl (by omega) (by omega) d_M_form_80 ?_
              refine r_eq (show fx 4 = nI w.2.length from hx9.n) ?_
              refine r_iaddN hx hb d_M_form_81 ?_
              refine r_icmp_ge (tgt := 107) hx hb (by omega) (by omega) d_M_form_82 (by decide) (fun c_82 => ?_) (fun c_82 => ?_)
              · skip
                exfalso; omega
              · skip
                refine lv_iload_n hx hb d_M_form_85 rfl (lv_at hl 1 rfl) ?_
                refine lv_if_ge (tgt := 107) hx hb d_M_form_86 (by decide) (fun c_86 => ?_) (fun c_86 => ?_)
                · skip
                  refine r_iincN (n := 1) (lv' := [(1, .int (nI (p + 1))), (3, .int (nI 0)), (2, .int r), (0, .ref h0)]) hx hb d_M_form_107 hl (k := 3) rfl (by decide) rfl (fun ls hl => ?_)
                  refine lv_goto (tgt := 7) hx hb d_M_form_110 (by decide) ?_
                  exact ih_7 (p + 1) b sc fo2 fl (by omega) (hF.more (by omega) c_12 (cmpN_pos (by rw [← hr1]; exact c_58))) (Or.inr hfb) (by omega) _ _ _ (lv_sub hl [3, 0] rfl) hw
                · skip
                  exact absurd c_49 c_86
            · skip
              refine lv_aload_n hx hb d_M_form_61 rfl (lv_at hl 1 rfl) ?_
              refine lv_dup hx hb d_M_form_62 rfl ?_
              refine g_M_124 hx hb hts hown hK hw 0 rfl rfl d_M_form_63 ?_
              refine lv_iconst (v := nI 1) hx hb d_M_form_66 rfl ?_
              refine r_iaddN hx hb d_M_form_67 ?_
              refine p_M_124 hx hb hts hown hK hw 0 rfl (Nat.le_of_ble_eq_true rfl) d_M_form_68 (fun H locs hw1 => ?_)
              replace hw : WW G A zs ([oM h0 [v0, .int (nI n), v2, v3, v4, v5, v6, v7, v8, v9, v10, v11, v12, .ref qn, .int (nI pm.length), v15, v16, v17, v18, v19, v20, v21, v22, v23, v24, v25, v26, v27, v28, .ref qx, .ref qo, .ref ql, .int (nI (sc + 1)), v33], aI G qn 96 fn, aI G qx 12 fx, aI G qo 12 fo2, aI G ql 12 fl]) H locs := hw1
              refine lv_iconst (v := nI 0) hx hb d_M_form_71 rfl ?_
              refine lv_istore_n (lv' := [(3, .int (nI 0)), (2, .int r), (0, .ref h0), (1, .int (nI p))]) hx hb d_M_form_72 rfl hl (by decide) rfl (fun ls hl => ?_)
              refine lv_iload_n hx hb d_M_form_73 rfl (lv_at hl 0 rfl) ?_
              refine lv_iconst (v := nI 5) hx hb d_M_form_74 rfl ?_
              refine lv_aload_n hx hb d_M_form_75 rfl (lv_at hl 2 rfl) ?_
              refine g_M_61 hx hb hts hown hK hw 0 rfl rfl d_M_form_76 ?_
              refine lv_iconst (v := nI 4) hx hb d_M_form_79 rfl ?_
              refine r_iald hx hb hK hw 2 rfl (by omega) (by omega) d_M_form_80 ?_
              refine r_eq (show fx 4 = nI w.2.length from hx9.n) ?_
              refine r_iaddN hx hb d_M_form_81 ?_
              refine r_icmp_ge (tgt := 107) hx hb (by omega) (by omega) d_M_form_82 (by decide) (fun c_82 => ?_) (fun c_82 => ?_)
              · skip
                exfalso; omega
              · skip
                refine lv_iload_n hx hb d_M_form_85 rfl (lv_at hl 1 rfl) ?_
                refine lv_if_ge (tgt := 107) hx hb d_M_form_86 (by decide) (fun c_86 => ?_) (fun c_86 => ?_)
                · skip
                  refine r_iincN (n := 1) (lv' := [(1, .int (nI (p + 1))), (3, .int (nI 0)), (2, .int r), (0, .ref h0)]) hx hb d_M_form_107 hl (k := 3) rfl (by decide) rfl (fun ls hl => ?_)
                  refine lv_goto (tgt := 7) hx hb d_M_form_110 (by decide) ?_
                  exact ih_7 (p + 1) b (sc + 1) fo2 fl (by omega) (hF.same (by omega) c_12 (cmpN_z (by rw [← hr1]; exact c_49) (by rw [← hr1]; exact c_58))) (Or.inr hfb) (by omega) _ _ _ (lv_sub hl [3, 0] rfl) hw
                · skip
                  exact absurd c_49 c_86
          · skip
            refine lv_aload_n hx hb d_M_form_52 rfl (lv_at hl 1 rfl) ?_
            refine lv_iconst (v := nI 0) hx hb d_M_form_53 rfl ?_
            refine p_M_124 hx hb hts hown hK hw 0 rfl (Nat.le_of_ble_eq_true rfl) d_M_form_54 (fun H locs hw1 => ?_)
            replace hw : WW G A zs ([oM h0 [v0, .int (nI n), v2, v3, v4, v5, v6, v7, v8, v9, v10, v11, v12, .ref qn, .int (nI pm.length), v15, v16, v17, v18, v19, v20, v21, v22, v23, v24, v25, v26, v27, v28, .ref qx, .ref qo, .ref ql, .int (nI 0), v33], aI G qn 96 fn, aI G qx 12 fx, aI G qo 12 fo2, aI G ql 12 fl]) H locs := hw1
            refine lv_iload_n hx hb d_M_form_57 rfl (lv_at hl 0 rfl) ?_
            refine lv_if_gt (tgt := 71) hx hb d_M_form_58 (by decide) (fun c_58 => ?_) (fun c_58 => ?_)
            · skip
              exact absurd c_58 (fun z => c_49 (Int32.le_of_lt z))
            · skip
              refine lv_aload_n hx hb d_M_form_61 rfl (lv_at hl 1 rfl) ?_
              refine lv_dup hx hb d_M_form_62 rfl ?_
              refine g_M_124 hx hb hts hown hK hw 0 rfl rfl d_M_form_63 ?_
              refine lv_iconst (v := nI 1) hx hb d_M_form_66 rfl ?_
              refine r_iaddN hx hb d_M_form_67 ?_
              refine p_M_124 hx hb hts hown hK hw 0 rfl (Nat.le_of_ble_eq_true rfl) d_M_form_68 (fun H locs hw1 => ?_)
              replace hw : WW G A zs ([oM h0 [v0, .int (nI n), v2, v3, v4, v5, v6, v7, v8, v9, v10, v11, v12, .ref qn, .int (nI pm.length), v15, v16, v17, v18, v19, v20, v21, v22, v23, v24, v25, v26, v27, v28, .ref qx, .ref qo, .ref ql, .int (nI (0 + 1)), v33], aI G qn 96 fn, aI G qx 12 fx, aI G qo 12 fo2, aI G ql 12 fl]) H locs := hw1
              refine lv_iconst (v := nI 0) hx hb d_M_form_71 rfl ?_
              refine lv_istore_n (lv' := [(3, .int (nI 0)), (2, .int r), (0, .ref h0), (1, .int (nI p))]) hx hb d_M_form_72 rfl hl (by decide) rfl (fun ls hl => ?_)
              have Lp73 : ∀ N_73 : Nat, ∀ (k : Nat) (fl2 : Nat → Int32), (k ≤ 5 + w.2.length) → (∀ i, i < k → fl2 (0 + i) = fo2 (0 + i)) → 5 + w.2.length - k < N_73 → ∀ (H : Heap) (locs : List Loc) (ls : Array Slot), lv_has ls 4 [(0, .ref h0), (1, .int (nI p)), (2, .int r), (3, .int (nI k))] → WW G A zs ([oM h0 [v0, .int (nI n), v2, v3, v4, v5, v6, v7, v8, v9, v10, v11, v12, .ref qn, .int (nI pm.length), v15, v16, v17, v18, v19, v20, v21, v22, v23, v24, v25, v26, v27, v28, .ref qx, .ref qo, .ref ql, .int (nI (0 + 1)), v33], aI G qn 96 fn, aI G qx 12 fx, aI G qo 12 fo2, aI G ql 12 fl2]) H locs → W zp zl ze R zs zm args below meth zc H locs 0 0 Q (F0 zm 73 ls []) := by
                intro N_73
                induction N_73 with
                | zero => intros; omega
                | succ N_73 ih_73 =>
                  intro k fl2 hk hcp hN_73 H locs ls hl hw
                  refine lv_iload_n hx hb d_M_form_73 rfl (lv_at hl 3 rfl) ?_
                  refine lv_iconst (v := nI 5) hx hb d_M_form_74 rfl ?_
                  refine lv_aload_n hx hb d_M_form_75 rfl (lv_at hl 0 rfl) ?_
                  refine g_M_61 hx hb hts hown hK hw 0 rfl rfl d_M_form_76 ?_
                  refine lv_iconst (v := nI 4) hx hb d_M_form_79 rfl ?_
                  refine r_iald hx hb hK hw 2 rfl (by omega) (by omega) d_M_form_80 ?_
                  refine r_eq (show fx 4 = nI w.2.length from hx9.n) ?_
                  refine r_iaddN hx hb d_M_form_81 ?_
                  refine r_icmp_ge (tgt := 107) hx hb (by omega) (by omega) d_M_form_82 (by decide) (fun c_82 => ?_) (fun c_82 => ?_)
                  · skip
                    refine r_iincN (n := 1) (lv' := [(1, .int (nI (p + 1))), (0, .ref h0), (2, .int r), (3, .int (nI k))]) hx hb d_M_form_107 hl (k := 1) rfl (by decide) rfl (fun ls hl => ?_)
                    refine lv_goto (tgt := 7) hx hb d_M_form_110 (by decide) ?_
                    exact ih_7 (p + 1) (trn (pm.getD p []) w) 1 fo2 fl2 (by omega) (hF.less (by omega) c_12 (cmpN_neg (by rw [← hr1]; exact c_49))) (Or.inr ⟨fun i hi => by rw [hcp i (by rw [trn_len] at hi; omega)]; exact hro i hi, hvt, trn_len _ _⟩) (by omega) _ _ _ (lv_sub hl [1, 0] rfl) hw
                  · skip
                    refine lv_iload_n hx hb d_M_form_85 rfl (lv_at hl 2 rfl) ?_
                    refine lv_if_ge (tgt := 107) hx hb d_M_form_86 (by decide) (fun c_86 => ?_) (fun c_86 => ?_)
                    · skip
                      exact absurd c_86 c_49
                    · skip
                      refine lv_aload_n hx hb d_M_form_89 rfl (lv_at hl 0 rfl) ?_
                      refine g_M_67 hx hb hts hown hK hw 0 rfl rfl d_M_form_90 ?_
                      refine lv_iload_n hx hb d_M_form_93 rfl (lv_at hl 3 rfl) ?_
                      refine lv_aload_n hx hb d_M_form_94 rfl (lv_at hl 0 rfl) ?_
                      refine g_M_64 hx hb hts hown hK hw 0 rfl rfl d_M_form_95 ?_
                      refine lv_iload_n hx hb d_M_form_98 rfl (lv_at hl 3 rfl) ?_
                      refine r_iald hx hb hK hw 3 rfl (by omega) (by omega) d_M_form_99 ?_
                      refine r_iast hx hb hK hw 4 rfl (by omega) (by omega) d_M_form_100 (fun H locs hw1 => ?_)
                      replace hw : WW G A zs ([oM h0 [v0, .int (nI n), v2, v3, v4, v5, v6, v7, v8, v9, v10, v11, v12, .ref qn, .int (nI pm.length), v15, v16, v17, v18, v19, v20, v21, v22, v23, v24, v25, v26, v27, v28, .ref qx, .ref qo, .ref ql, .int (nI (0 + 1)), v33], aI G qn 96 fn, aI G qx 12 fx, aI G qo 12 fo2, aI G ql 12 (upd fl2 k (fo2 k))]) H locs := hw1
                      refine r_iincN (n := 1) (lv' := [(3, .int (nI (k + 1))), (0, .ref h0), (1, .int (nI p)), (2, .int r)]) hx hb d_M_form_101 hl (k := 3) rfl (by decide) rfl (fun ls hl => ?_)
                      refine lv_goto (tgt := 73) hx hb d_M_form_104 (by decide) ?_
                      exact ih_73 (k + 1) (upd fl2 k (fo2 k)) (by omega) (fun i hi => by rw [Nat.zero_add]; exact upd_lt (fun i hi => by have := hcp i hi; rwa [Nat.zero_add] at this) rfl i hi) (by omega) _ _ _ (lv_sub hl [1, 2, 3, 0] rfl) hw
              exact Lp73 _ 0 fl (by omega) (fun i hi => absurd hi (Nat.not_lt_zero _)) (Nat.lt_succ_self _) _ _ _ (lv_sub hl [2, 3, 1, 0] rfl) hw
        · skip
          refine lv_iconst (v := -1) hx hb d_M_form_24 (by decide) ?_
          refine lv_goto (tgt := 47) hx hb d_M_form_25 (by decide) ?_
          refine lv_istore_n (lv' := [(2, .int (-1)), (0, .ref h0), (1, .int (nI p))]) hx hb d_M_form_47 rfl hl (by decide) rfl (fun ls hl => ?_)
          refine lv_iload_n hx hb d_M_form_48 rfl (lv_at hl 0 rfl) ?_
          refine lv_if_ge (tgt := 57) hx hb d_M_form_49 (by decide) (fun c_49 => ?_) (fun c_49 => ?_)
          · skip
            exact absurd c_49 (by decide)
          · skip
            refine lv_aload_n hx hb d_M_form_52 rfl (lv_at hl 1 rfl) ?_
            refine lv_iconst (v := nI 0) hx hb d_M_form_53 rfl ?_
            refine p_M_124 hx hb hts hown hK hw 0 rfl (Nat.le_of_ble_eq_true rfl) d_M_form_54 (fun H locs hw1 => ?_)
            replace hw : WW G A zs ([oM h0 [v0, .int (nI n), v2, v3, v4, v5, v6, v7, v8, v9, v10, v11, v12, .ref qn, .int (nI pm.length), v15, v16, v17, v18, v19, v20, v21, v22, v23, v24, v25, v26, v27, v28, .ref qx, .ref qo, .ref ql, .int (nI 0), v33], aI G qn 96 fn, aI G qx 12 fx, aI G qo 12 fo2, aI G ql 12 fl]) H locs := hw1
            refine lv_iload_n hx hb d_M_form_57 rfl (lv_at hl 0 rfl) ?_
            refine lv_if_gt (tgt := 71) hx hb d_M_form_58 (by decide) (fun c_58 => ?_) (fun c_58 => ?_)
            · skip
              exact absurd c_58 (by decide)
            · skip
              refine lv_aload_n hx hb d_M_form_61 rfl (lv_at hl 1 rfl) ?_
              refine lv_dup hx hb d_M_form_62 rfl ?_
              refine g_M_124 hx hb hts hown hK hw 0 rfl rfl d_M_form_63 ?_
              refine lv_iconst (v := nI 1) hx hb d_M_form_66 rfl ?_
              refine r_iaddN hx hb d_M_form_67 ?_
              refine p_M_124 hx hb hts hown hK hw 0 rfl (Nat.le_of_ble_eq_true rfl) d_M_form_68 (fun H locs hw1 => ?_)
              replace hw : WW G A zs ([oM h0 [v0, .int (nI n), v2, v3, v4, v5, v6, v7, v8, v9, v10, v11, v12, .ref qn, .int (nI pm.length), v15, v16, v17, v18, v19, v20, v21, v22, v23, v24, v25, v26, v27, v28, .ref qx, .ref qo, .ref ql, .int (nI (0 + 1)), v33], aI G qn 96 fn, aI G qx 12 fx, aI G qo 12 fo2, aI G ql 12 fl]) H locs := hw1
              refine lv_iconst (v := nI 0) hx hb d_M_form_71 rfl ?_
              refine lv_istore_n (lv' := [(3, .int (nI 0)), (2, .int (-1)), (0, .ref h0), (1, .int (nI p))]) hx hb d_M_form_72 rfl hl (by decide) rfl (fun ls hl => ?_)
              have Lp73 : ∀ N_73 : Nat, ∀ (k : Nat) (fl2 : Nat → Int32), (k ≤ 5 + w.2.length) → (∀ i, i < k → fl2 (0 + i) = fo2 (0 + i)) → 5 + w.2.length - k < N_73 → ∀ (H : Heap) (locs : List Loc) (ls : Array Slot), lv_has ls 4 [(0, .ref h0), (1, .int (nI p)), (2, .int (-1)), (3, .int (nI k))] → WW G A zs ([oM h0 [v0, .int (nI n), v2, v3, v4, v5, v6, v7, v8, v9, v10, v11, v12, .ref qn, .int (nI pm.length), v15, v16, v17, v18, v19, v20, v21, v22, v23, v24, v25, v26, v27, v28, .ref qx, .ref qo, .ref ql, .int (nI (0 + 1)), v33], aI G qn 96 fn, aI G qx 12 fx, aI G qo 12 fo2, aI G ql 12 fl2]) H locs → W zp zl ze R zs zm args below meth zc H locs 0 0 Q (F0 zm 73 ls []) := by
                intro N_73
                induction N_73 with
                | zero => intros; omega
                | succ N_73 ih_73 =>
                  intro k fl2 hk hcp hN_73 H locs ls hl hw
                  refine lv_iload_n hx hb d_M_form_73 rfl (lv_at hl 3 rfl) ?_
                  refine lv_iconst (v := nI 5) hx hb d_M_form_74 rfl ?_
                  refine lv_aload_n hx hb d_M_form_75 rfl (lv_at hl 0 rfl) ?_
                  refine g_M_61 hx hb hts hown hK hw 0 rfl rfl d_M_form_76 ?_
                  refine lv_iconst (v := nI 4) hx hb d_M_form_79 rfl ?_
                  refine r_iald hx hb hK hw 2 rfl (by omega) (by omega) d_M_form_80 ?_
                  refine r_eq (show fx 4 = nI w.2.length from hx9.n) ?_
                  refine r_iaddN hx hb d_M_form_81 ?_
                  refine r_icmp_ge (tgt := 107) hx hb (by omega) (by omega) d_M_form_82 (by decide) (fun c_82 => ?_) (fun c_82 => ?_)
                  · skip
                    refine r_iincN (n := 1) (lv' := [(1, .int (nI (p + 1))), (0, .ref h0), (2, .int (-1)), (3, .int (nI k))]) hx hb d_M_form_107 hl (k := 1) rfl (by decide) rfl (fun ls hl => ?_)
                    refine lv_goto (tgt := 7) hx hb d_M_form_110 (by decide) ?_
                    exact ih_7 (p + 1) (trn (pm.getD p []) w) 1 fo2 fl2 (by omega) (by have hz := hF; rw [show sc = 0 by omega] at hz; exact hz.first c_12) (Or.inr ⟨fun i hi => by rw [hcp i (by rw [trn_len] at hi; omega)]; exact hro i hi, hvt, trn_len _ _⟩) (by omega) _ _ _ (lv_sub hl [1, 0] rfl) hw
                  · skip
                    refine lv_iload_n hx hb d_M_form_85 rfl (lv_at hl 2 rfl) ?_
                    refine lv_if_ge (tgt := 107) hx hb d_M_form_86 (by decide) (fun c_86 => ?_) (fun c_86 => ?_)
                    · skip
                      exact absurd c_86 (by decide)
                    · skip
                      refine lv_aload_n hx hb d_M_form_89 rfl (lv_at hl 0 rfl) ?_
                      refine g_M_67 hx hb hts hown hK hw 0 rfl rfl d_M_form_90 ?_
                      refine lv_iload_n hx hb d_M_form_93 rfl (lv_at hl 3 rfl) ?_
                      refine lv_aload_n hx hb d_M_form_94 rfl (lv_at hl 0 rfl) ?_
                      refine g_M_64 hx hb hts hown hK hw 0 rfl rfl d_M_form_95 ?_
                      refine lv_iload_n hx hb d_M_form_98 rfl (lv_at hl 3 rfl) ?_
                      refine r_iald hx hb hK hw 3 rfl (by omega) (by omega) d_M_form_99 ?_
                      refine r_iast hx hb hK hw 4 rfl (by omega) (by omega) d_M_form_100 (fun H locs hw1 => ?_)
                      replace hw : WW G A zs ([oM h0 [v0, .int (nI n), v2, v3, v4, v5, v6, v7, v8, v9, v10, v11, v12, .ref qn, .int (nI pm.length), v15, v16, v17, v18, v19, v20, v21, v22, v23, v24, v25, v26, v27, v28, .ref qx, .ref qo, .ref ql, .int (nI (0 + 1)), v33], aI G qn 96 fn, aI G qx 12 fx, aI G qo 12 fo2, aI G ql 12 (upd fl2 k (fo2 k))]) H locs := hw1
                      refine r_iincN (n := 1) (lv' := [(3, .int (nI (k + 1))), (0, .ref h0), (1, .int (nI p)), (2, .int (-1))]) hx hb d_M_form_101 hl (k := 3) rfl (by decide) rfl (fun ls hl => ?_)
                      refine lv_goto (tgt := 73) hx hb d_M_form_104 (by decide) ?_
                      exact ih_73 (k + 1) (upd fl2 k (fo2 k)) (by omega) (fun i hi => by rw [Nat.zero_add]; exact upd_lt (fun i hi => by have := hcp i hi; rwa [Nat.zero_add] at this) rfl i hi) (by omega) _ _ _ (lv_sub hl [1, 2, 3, 0] rfl) hw
              exact Lp73 _ 0 fl (by omega) (fun i hi => absurd hi (Nat.not_lt_zero _)) (Nat.lt_succ_self _) _ _ _ (lv_sub hl [2, 3, 1, 0] rfl) hw
  exact Lp7 _ 0 (([], []) : Wh) 0 fo fl (by omega) FI.init (Or.inl rfl) (Nat.lt_succ_self _) _ _ _ (lv_sub hl [1, 0] rfl) hw
