theorem isb_z {fb : Nat → Int32} {B : Nat → Bool} (h : ∀ i, i < 64 → fb i = if B i = true then nI 1 else nI 0) {i : Nat} (hi : i < 64) : fb i = 0 ↔ B i = false := by
  rw [h i hi]
  cases B i with
  | true => exact ⟨fun z => absurd z (by decide), fun z => by cases z⟩
  | false => exact ⟨fun _ => rfl, fun _ => rfl⟩
theorem isb_nz {fb : Nat → Int32} {B : Nat → Bool} (h : ∀ i, i < 64 → fb i = if B i = true then nI 1 else nI 0) {i : Nat} (hi : i < 64) : ¬ fb i = 0 ↔ B i = true := by
  rw [isb_z h hi]
  cases B i <;> simp
theorem isb_in {B : Nat → Bool} {w : Wh} {a b : Nat} (h : ∀ j, a < j → j < b → B (8 * dg w a + dg w j) = false) (hb : B (8 * dg w a + dg w b) = false) : ∀ j, a < j → j < b + 1 → B (8 * dg w a + dg w j) = false := by
  intro j h1 h2
  by_cases he : j = b
  · rw [he]; exact hb
  · exact h j h1 (by omega)
theorem isb_out {B : Nat → Bool} {w : Wh} {a b n : Nat} (hg : ∀ i j, i < a → i < j → j < n → B (8 * dg w i + dg w j) = false) (h : ∀ j, a < j → j < b → B (8 * dg w a + dg w j) = false) (hb : n ≤ b) : ∀ i j, i < a + 1 → i < j → j < n → B (8 * dg w i + dg w j) = false := by
  intro i j h1 h2 h3
  by_cases he : i = a
  · rw [he] at h2 ⊢; exact h j h2 (by omega)
  · exact hg i j (by omega) h2 h3
theorem grow_ne {fm fm2 : Nat → Int64} {mn : Nat} (e : fm2 = va_cpy fm (fun _ => 0) 0 0 mn) (h : ∀ i j, i < mn → j < i → fm j ≠ fm i) : ∀ k j, k < mn → j < k → fm2 j ≠ fm2 k := by
  intro k j hk hj
  rw [e, pk_cpy_in (Nat.zero_le _) (by omega), pk_cpy_in (Nat.zero_le _) (by omega)]
  simpa using h k j hk hj
set_option maxHeartbeats 4000000 in
set_option maxRecDepth 100000 in
theorem c_X_longer (zl : Launch) (G : GG) (q0 k n : Nat) (f : Nat → Int32) (hkn : k ≤ n) (hn : n < 100000) : Ctr (S := Nat) vR zl y_X_longer b_X_longer 3 (Option.some (Jvm.ClassFile.FieldType.array Jvm.ClassFile.FieldType.int)) 1 1 n G [.ref q0, .int (nI n)] ([aI G q0 k f]) (fun r u => u = r) (fun u => [aI G q0 k f, aI G u n (va_cpy f (fun _ => 0) 0 0 k)]) := by
  refine Ctr.start (by decide) (Nat.le_of_ble_eq_true rfl) ?_
  intro zp ze zs zm below meth zc A ls C0 hin hK hA hl hw
  obtain ⟨hx, hb, hr, hlk, hml, hown, hts⟩ := C0
  obtain ⟨R, hRR⟩ : ∃ R : Room, R = rmL 1 1 n := ⟨_, rfl⟩
  have hRf : R.frames = 1 := by rw [hRR]
  have hRl : R.locals = 64 * 1 := by rw [hRR]
  have hRc : R.cells = 1 := by rw [hRR]
  have hRs : R.slots = n := by rw [hRR]
  rw [← hRR]; clear hRR
  generalize hQ : MQ below _ _ zs _ _ A = Q
  generalize hAr : List.toArray _ = args at hts hQ ⊢
  replace hl : lv_has ls 3 [(0, .ref q0), (1, .int (nI n))] := hl
  obtain ⟨H, eH⟩ : ∃ H : Heap, H = zs.heap := ⟨_, rfl⟩
  obtain ⟨locs, eL⟩ : ∃ l0 : List Loc, l0 = [] := ⟨_, rfl⟩
  rw [← eH, ← eL] at hw ⊢; clear eH eL
  refine lv_iload_n hx hb d_X_longer_0 rfl (lv_at hl 1 rfl) ?_
  refine r_newI hx hb hts hK hA hw (by omega) (by omega) (by omega) d_X_longer_1 (fun q1 H hw1 => ?_)
  replace hw : WW G A zs ([aI G q0 k f, aI G q1 n (fun _ => 0)]) H locs := hw1
  refine lv_astore_n (lv' := [(2, .ref q1), (0, .ref q0), (1, .int (nI n))]) hx hb d_X_longer_3 rfl hl (by decide) rfl (fun ls hl => ?_)
  refine lv_aload_n hx hb d_X_longer_4 rfl (lv_at hl 1 rfl) ?_
  refine lv_iconst (v := nI 0) hx hb d_X_longer_5 rfl ?_
  refine lv_aload_n hx hb d_X_longer_6 rfl (lv_at hl 0 rfl) ?_
  refine lv_iconst (v := nI 0) hx hb d_X_longer_7 rfl ?_
  refine lv_aload_n hx hb d_X_longer_8 rfl (lv_at hl 1 rfl) ?_
  refine r_alen hx hb hK hw 0 rfl d_X_longer_9 ?_
  refine r_copyI hx hb (by rw [hml]; exact hl.1.symm) hts hown tm_155 tm_157 tm_156 hK hw 0 1 rfl rfl (sp := 0) (dp := 0) (n := k) (by omega) (by omega) (by omega) (by omega) (by omega) (by rw [hRl]; exact Nat.le_of_ble_eq_true rfl) d_X_longer_10 (fun H locs hw1 => ?_)
  replace hw : WW G A zs ([aI G q0 k f, aI G q1 n (va_cpy f (fun _ => 0) 0 0 k)]) H locs := hw1
  refine lv_aload_n hx hb d_X_longer_13 rfl (lv_at hl 0 rfl) ?_
  exact r_ret hQ (r_aret q1 hx hb hr hlk hw rfl (by omega) (by omega) d_X_longer_14)
set_option maxHeartbeats 4000000 in
set_option maxRecDepth 100000 in
theorem c_X_forget (zl : Launch) (G : GG) (h0 qt n : Nat) (v0 v1 v2 v3 v4 v5 v6 v7 v8 v9 v10 v11 v12 v13 v14 v15 v16 v18 v19 v20 v21 v22 v23 v24 v25 v26 : Value) (tb : Nat → Int32) (hn : n < 100000) : Ctr (S := Nat → Int32) vV zl y_X_forget b_X_forget 2 (Option.none : Option Jvm.ClassFile.FieldType) 0 0 0 G [.ref h0] ([oX h0 [v0, v1, v2, v3, v4, v5, v6, v7, v8, v9, v10, v11, v12, v13, v14, v15, v16, .ref qt, v18, v19, v20, v21, v22, v23, v24, v25, v26], aI G qt n tb]) (fun _ tb => ∀ i, i < n → tb i = -1) (fun tb => [oX h0 [v0, v1, v2, v3, v4, v5, v6, v7, v8, v9, v10, v11, v12, v13, v14, .int (nI 0), .int (nI 0), .ref qt, .int (-1), .int (nI 0), .int (nI 0), .int (nI 0), v22, v23, v24, v25, v26], aI G qt n tb]) := by
  refine Ctr.start (by decide) (Nat.le_of_ble_eq_true rfl) ?_
  intro zp ze zs zm below meth zc A ls C0 hin hK hA hl hw
  obtain ⟨hx, hb, hr, hlk, hml, hown, hts⟩ := C0
  obtain ⟨R, hRR⟩ : ∃ R : Room, R = rmL 0 0 0 := ⟨_, rfl⟩
  have hRf : R.frames = 0 := by rw [hRR]
  have hRl : R.locals = 64 * 0 := by rw [hRR]
  have hRc : R.cells = 0 := by rw [hRR]
  have hRs : R.slots = 0 := by rw [hRR]
  rw [← hRR]; clear hRR
  generalize hQ : MQ below _ _ zs _ _ A = Q
  generalize hAr : List.toArray _ = args at hts hQ ⊢
  replace hl : lv_has ls 2 [(0, .ref h0)] := hl
  obtain ⟨H, eH⟩ : ∃ H : Heap, H = zs.heap := ⟨_, rfl⟩
  obtain ⟨locs, eL⟩ : ∃ l0 : List Loc, l0 = [] := ⟨_, rfl⟩
  rw [← eH, ← eL] at hw ⊢; clear eH eL
  refine lv_aload_n hx hb d_X_forget_0 rfl (lv_at hl 0 rfl) ?_
  refine lv_iconst (v := nI 0) hx hb d_X_forget_1 rfl ?_
  refine p_X_99 hx hb hts hown hK hw 0 rfl (Nat.le_of_ble_eq_true rfl) d_X_forget_2 (fun H locs hw1 => ?_)
  replace hw : WW G A zs ([oX h0 [v0, v1, v2, v3, v4, v5, v6, v7, v8, v9, v10, v11, v12, v13, v14, .int (nI 0), v16, .ref qt, v18, v19, v20, v21, v22, v23, v24, v25, v26], aI G qt n tb]) H locs := hw1
  refine lv_aload_n hx hb d_X_forget_5 rfl (lv_at hl 0 rfl) ?_
  refine lv_iconst (v := nI 0) hx hb d_X_forget_6 rfl ?_
  refine p_X_102 hx hb hts hown hK hw 0 rfl (Nat.le_of_ble_eq_true rfl) d_X_forget_7 (fun H locs hw1 => ?_)
  replace hw : WW G A zs ([oX h0 [v0, v1, v2, v3, v4, v5, v6, v7, v8, v9, v10, v11, v12, v13, v14, .int (nI 0), .int (nI 0), .ref qt, v18, v19, v20, v21, v22, v23, v24, v25, v26], aI G qt n tb]) H locs := hw1
  refine lv_aload_n hx hb d_X_forget_10 rfl (lv_at hl 0 rfl) ?_
  refine lv_iconst (v := -1) hx hb d_X_forget_11 (by decide) ?_
  refine p_X_49 hx hb hts hown hK hw 0 rfl (Nat.le_of_ble_eq_true rfl) d_X_forget_12 (fun H locs hw1 => ?_)
  replace hw : WW G A zs ([oX h0 [v0, v1, v2, v3, v4, v5, v6, v7, v8, v9, v10, v11, v12, v13, v14, .int (nI 0), .int (nI 0), .ref qt, .int (-1), v19, v20, v21, v22, v23, v24, v25, v26], aI G qt n tb]) H locs := hw1
  refine lv_aload_n hx hb d_X_forget_15 rfl (lv_at hl 0 rfl) ?_
  refine lv_iconst (v := nI 0) hx hb d_X_forget_16 rfl ?_
  refine p_X_105 hx hb hts hown hK hw 0 rfl (by decide) (by decide) (Nat.le_of_ble_eq_true rfl) d_X_forget_17 (fun H locs hw1 => ?_)
  replace hw : WW G A zs ([oX h0 [v0, v1, v2, v3, v4, v5, v6, v7, v8, v9, v10, v11, v12, v13, v14, .int (nI 0), .int (nI 0), .ref qt, .int (-1), .int (nI 0), v20, v21, v22, v23, v24, v25, v26], aI G qt n tb]) H locs := hw1
  refine lv_aload_n hx hb d_X_forget_20 rfl (lv_at hl 0 rfl) ?_
  refine lv_iconst (v := nI 0) hx hb d_X_forget_21 rfl ?_
  refine p_X_109 hx hb hts hown hK hw 0 rfl (Nat.le_of_ble_eq_true rfl) d_X_forget_22 (fun H locs hw1 => ?_)
  replace hw : WW G A zs ([oX h0 [v0, v1, v2, v3, v4, v5, v6, v7, v8, v9, v10, v11, v12, v13, v14, .int (nI 0), .int (nI 0), .ref qt, .int (-1), .int (nI 0), .int (nI 0), v21, v22, v23, v24, v25, v26], aI G qt n tb]) H locs := hw1
  refine lv_aload_n hx hb d_X_forget_25 rfl (lv_at hl 0 rfl) ?_
  refine lv_iconst (v := nI 0) hx hb d_X_forget_26 rfl ?_
  refine p_X_112 hx hb hts hown hK hw 0 rfl (Nat.le_of_ble_eq_true rfl) d_X_forget_27 (fun H locs hw1 => ?_)
  replace hw : WW G A zs ([oX h0 [v0, v1, v2, v3, v4, v5, v6, v7, v8, v9, v10, v11, v12, v13, v14, .int (nI 0), .int (nI 0), .ref qt, .int (-1), .int (nI 0), .int (nI 0), .int (nI 0), v22, v23, v24, v25, v26], aI G qt n tb]) H locs := hw1
  refine lv_iconst (v := nI 0) hx hb d_X_forget_30 rfl ?_
  refine lv_istore_n (lv' := [(1, .int (nI 0)), (0, .ref h0)]) hx hb d_X_forget_31 rfl hl (by decide) rfl (fun ls hl => ?_)
  have Lp32 : ∀ N_32 : Nat, ∀ (k : Nat) (tb : Nat → Int32), (k ≤ n) → (∀ i, i < k → tb i = -1) → n - k < N_32 → ∀ (H : Heap) (locs : List Loc) (ls : Array Slot), lv_has ls 2 [(0, .ref h0), (1, .int (nI k))] → WW G A zs ([oX h0 [v0, v1, v2, v3, v4, v5, v6, v7, v8, v9, v10, v11, v12, v13, v14, .int (nI 0), .int (nI 0), .ref qt, .int (-1), .int (nI 0), .int (nI 0), .int (nI 0), v22, v23, v24, v25, v26], aI G qt n tb]) H locs → W zp zl ze R zs zm args below meth zc H locs 0 0 Q (F0 zm 32 ls []) := by
    intro N_32
    induction N_32 with
    | zero => intros; omega
    | succ N_32 ih_32 =>
      intro k tb hk ht hN_32 H locs ls hl hw
      refine lv_iload_n hx hb d_X_forget_32 rfl (lv_at hl 1 rfl) ?_
      refine lv_aload_n hx hb d_X_forget_33 rfl (lv_at hl 0 rfl) ?_
      refine g_X_46 hx hb hts hown hK hw 0 rfl rfl d_X_forget_34 ?_
      refine r_alen hx hb hK hw 1 rfl d_X_forget_37 ?_
      refine r_icmp_ge (tgt := 54) hx hb (by omega) (by omega) d_X_forget_38 (by decide) (fun c_38 => ?_) (fun c_38 => ?_)
      · skip
        exact r_ret hQ (r_vret tb hx hb hr hlk hw (fun i hi => ht i (by omega)) (by omega) (by omega) d_X_forget_54)
      · skip
        refine lv_aload_n hx hb d_X_forget_41 rfl (lv_at hl 0 rfl) ?_
        refine g_X_46 hx hb hts hown hK hw 0 rfl rfl d_X_forget_42 ?_
        refine lv_iload_n hx hb d_X_forget_45 rfl (lv_at hl 1 rfl) ?_
        refine lv_iconst (v := -1) hx hb d_X_forget_46 (by decide) ?_
        refine r_iast hx hb hK hw 1 rfl (by omega) (by omega) d_X_forget_47 (fun H locs hw1 => ?_)
        replace hw : WW G A zs ([oX h0 [v0, v1, v2, v3, v4, v5, v6, v7, v8, v9, v10, v11, v12, v13, v14, .int (nI 0), .int (nI 0), .ref qt, .int (-1), .int (nI 0), .int (nI 0), .int (nI 0), v22, v23, v24, v25, v26], aI G qt n (upd tb k (-1))]) H locs := hw1
        refine r_iincN (n := 1) (lv' := [(1, .int (nI (k + 1))), (0, .ref h0)]) hx hb d_X_forget_48 hl (k := 1) rfl (by decide) rfl (fun ls hl => ?_)
        refine lv_goto (tgt := 32) hx hb d_X_forget_51 (by decide) ?_
        exact ih_32 (k + 1) (upd tb k (-1)) (by omega) (upd_lt ht rfl) (by omega) _ _ _ (lv_sub hl [1, 0] rfl) hw
  exact Lp32 _ 0 tb (by omega) (fun i hi => absurd hi (Nat.not_lt_zero _)) (Nat.lt_succ_self _) _ _ _ (lv_sub hl [1, 0] rfl) hw
set_option maxHeartbeats 4000000 in
set_option maxRecDepth 100000 in
theorem c_X_isOver (zl : Launch) (G : GG) (h0 : Nat) (v0 v1 v2 v3 v4 v5 v6 v7 v8 v9 v10 v11 v12 v13 v14 v15 v16 v17 v20 v21 v22 v23 v24 v25 v26 : Value) (bo fu : Int32) : Ctr (S := Unit) vI zl y_X_isOver b_X_isOver 1 (Option.some Jvm.ClassFile.FieldType.boolean) 0 0 0 G [.ref h0] ([oX h0 [v0, v1, v2, v3, v4, v5, v6, v7, v8, v9, v10, v11, v12, v13, v14, v15, v16, v17, .int bo, .int fu, v20, v21, v22, v23, v24, v25, v26]]) (fun r _ => r = if bo = -1 ∧ fu = 0 then nI 0 else nI 1) (fun _ => [oX h0 [v0, v1, v2, v3, v4, v5, v6, v7, v8, v9, v10, v11, v12, v13, v14, v15, v16, v17, .int bo, .int fu, v20, v21, v22, v23, v24, v25, v26]]) := by
  refine Ctr.start (by decide) (Nat.le_of_ble_eq_true rfl) ?_
  intro zp ze zs zm below meth zc A ls C0 hin hK hA hl hw
  obtain ⟨hx, hb, hr, hlk, hml, hown, hts⟩ := C0
  obtain ⟨R, hRR⟩ : ∃ R : Room, R = rmL 0 0 0 := ⟨_, rfl⟩
  have hRf : R.frames = 0 := by rw [hRR]
  have hRl : R.locals = 64 * 0 := by rw [hRR]
  have hRc : R.cells = 0 := by rw [hRR]
  have hRs : R.slots = 0 := by rw [hRR]
  rw [← hRR]; clear hRR
  generalize hQ : MQ below _ _ zs _ _ A = Q
  generalize hAr : List.toArray _ = args at hts hQ ⊢
  replace hl : lv_has ls 1 [(0, .ref h0)] := hl
  obtain ⟨H, eH⟩ : ∃ H : Heap, H = zs.heap := ⟨_, rfl⟩
  obtain ⟨locs, eL⟩ : ∃ l0 : List Loc, l0 = [] := ⟨_, rfl⟩
  rw [← eH, ← eL] at hw ⊢; clear eH eL
  refine lv_aload_n hx hb d_X_isOver_0 rfl (lv_at hl 0 rfl) ?_
  refine g_X_49 hx hb hts hown hK hw 0 rfl rfl d_X_isOver_1 ?_
  refine lv_iconst (v := -1) hx hb d_X_isOver_4 (by decide) ?_
  refine lv_icmp_ne (tgt := 15) hx hb d_X_isOver_5 (by decide) (fun c_5 => ?_) (fun c_5 => ?_)
  · skip
    refine lv_iconst (v := nI 1) hx hb d_X_isOver_15 rfl ?_
    refine lv_goto (tgt := 20) hx hb d_X_isOver_16 (by decide) ?_
    exact r_ret hQ (r_zret () hx hb hr hlk hw (by rw [if_neg (fun z => c_5 z.1)]) (by decide) (by omega) (by omega) d_X_isOver_20)
  · skip
    refine lv_aload_n hx hb d_X_isOver_8 rfl (lv_at hl 0 rfl) ?_
    refine g_X_105 hx hb hts hown hK hw 0 rfl rfl d_X_isOver_9 ?_
    refine lv_if_eq (tgt := 19) hx hb d_X_isOver_12 (by decide) (fun c_12 => ?_) (fun c_12 => ?_)
    · skip
      refine lv_iconst (v := nI 0) hx hb d_X_isOver_19 rfl ?_
      exact r_ret hQ (r_zret () hx hb hr hlk hw (by rw [if_pos ⟨c_5, c_12⟩]) (by decide) (by omega) (by omega) d_X_isOver_20)
    · skip
      refine lv_iconst (v := nI 1) hx hb d_X_isOver_15 rfl ?_
      refine lv_goto (tgt := 20) hx hb d_X_isOver_16 (by decide) ?_
      exact r_ret hQ (r_zret () hx hb hr hlk hw (by rw [if_neg (fun z => c_12 z.2)]) (by decide) (by omega) (by omega) d_X_isOver_20)
set_option maxHeartbeats 4000000 in
set_option maxRecDepth 100000 in
theorem c_X_isState (zl : Launch) (G : GG) (h0 S : Nat) (v0 v1 v3 v4 v5 v6 v7 v8 v9 v10 v11 v12 v13 v14 v15 v16 v17 v18 v19 v20 v21 v22 v23 v24 v25 v26 : Value) (k : Int32) : Ctr (S := Unit) vI zl y_X_isState b_X_isState 2 (Option.some Jvm.ClassFile.FieldType.boolean) 0 0 0 G [.ref h0, .int k] ([oX h0 [v0, v1, .int (nI S), v3, v4, v5, v6, v7, v8, v9, v10, v11, v12, v13, v14, v15, v16, v17, v18, v19, v20, v21, v22, v23, v24, v25, v26]]) (fun r _ => r = if 0 ≤ k ∧ k < nI S then nI 1 else nI 0) (fun _ => [oX h0 [v0, v1, .int (nI S), v3, v4, v5, v6, v7, v8, v9, v10, v11, v12, v13, v14, v15, v16, v17, v18, v19, v20, v21, v22, v23, v24, v25, v26]]) := by
  refine Ctr.start (by decide) (Nat.le_of_ble_eq_true rfl) ?_
  intro zp ze zs zm below meth zc A ls C0 hin hK hA hl hw
  obtain ⟨hx, hb, hr, hlk, hml, hown, hts⟩ := C0
  obtain ⟨R, hRR⟩ : ∃ R : Room, R = rmL 0 0 0 := ⟨_, rfl⟩
  have hRf : R.frames = 0 := by rw [hRR]
  have hRl : R.locals = 64 * 0 := by rw [hRR]
  have hRc : R.cells = 0 := by rw [hRR]
  have hRs : R.slots = 0 := by rw [hRR]
  rw [← hRR]; clear hRR
  generalize hQ : MQ below _ _ zs _ _ A = Q
  generalize hAr : List.toArray _ = args at hts hQ ⊢
  replace hl : lv_has ls 2 [(0, .ref h0), (1, .int k)] := hl
  obtain ⟨H, eH⟩ : ∃ H : Heap, H = zs.heap := ⟨_, rfl⟩
  obtain ⟨locs, eL⟩ : ∃ l0 : List Loc, l0 = [] := ⟨_, rfl⟩
  rw [← eH, ← eL] at hw ⊢; clear eH eL
  refine lv_iload_n hx hb d_X_isState_0 rfl (lv_at hl 1 rfl) ?_
  refine lv_if_lt (tgt := 16) hx hb d_X_isState_1 (by decide) (fun c_1 => ?_) (fun c_1 => ?_)
  · skip
    refine lv_iconst (v := nI 0) hx hb d_X_isState_16 rfl ?_
    exact r_ret hQ (r_zret () hx hb hr hlk hw (by rw [if_neg (fun z => absurd z.1 (Int32.not_le.mpr c_1))]) (by decide) (by omega) (by omega) d_X_isState_17)
  · skip
    refine lv_iload_n hx hb d_X_isState_4 rfl (lv_at hl 1 rfl) ?_
    refine lv_aload_n hx hb d_X_isState_5 rfl (lv_at hl 0 rfl) ?_
    refine g_X_7 hx hb hts hown hK hw 0 rfl rfl d_X_isState_6 ?_
    refine lv_icmp_ge (tgt := 16) hx hb d_X_isState_9 (by decide) (fun c_9 => ?_) (fun c_9 => ?_)
    · skip
      refine lv_iconst (v := nI 0) hx hb d_X_isState_16 rfl ?_
      exact r_ret hQ (r_zret () hx hb hr hlk hw (by rw [if_neg (fun z => absurd z.2 (Int32.not_lt.mpr c_9))]) (by decide) (by omega) (by omega) d_X_isState_17)
    · skip
      refine lv_iconst (v := nI 1) hx hb d_X_isState_12 rfl ?_
      refine lv_goto (tgt := 17) hx hb d_X_isState_13 (by decide) ?_
      exact r_ret hQ (r_zret () hx hb hr hlk hw (by rw [if_pos ⟨Int32.not_lt.mp c_1, Int32.not_le.mp c_9⟩]) (by decide) (by omega) (by omega) d_X_isState_17)
set_option maxHeartbeats 4000000 in
set_option maxRecDepth 100000 in
theorem c_X_isBad (zl : Launch) (G : GG) (h0 qb hw0 qs qc n : Nat) (v1 v2 v3 v4 v5 v7 v8 v9 v10 v11 v12 v13 v14 v15 v16 v17 v18 v19 v20 v21 v22 v23 v24 v25 v26 : Value) (fb f : Nat → Int32) (B : Nat → Bool) (w : Wh) (hn4 : n ≤ 4) (hV : Vl n w) (hf : Sts f w) (hB : ∀ i, i < 64 → fb i = if B i = true then nI 1 else nI 0) : Ctr (S := Unit) vI zl y_X_isBad b_X_isBad 4 (Option.some Jvm.ClassFile.FieldType.boolean) 0 0 0 G [.ref h0, .ref hw0] ([oX h0 [.int (nI n), v1, v2, v3, v4, v5, .ref qb, v7, v8, v9, v10, v11, v12, v13, v14, v15, v16, v17, v18, v19, v20, v21, v22, v23, v24, v25, v26], aZ G qb 64 fb, oW hw0 [.ref qs, .ref qc, .int (nI w.2.length)], aI G qs 4 f]) (fun r _ => (r = nI 1 ∧ BadW n B w) ∨ (r = nI 0 ∧ ¬ BadW n B w)) (fun _ => [oX h0 [.int (nI n), v1, v2, v3, v4, v5, .ref qb, v7, v8, v9, v10, v11, v12, v13, v14, v15, v16, v17, v18, v19, v20, v21, v22, v23, v24, v25, v26], aZ G qb 64 fb, oW hw0 [.ref qs, .ref qc, .int (nI w.2.length)], aI G qs 4 f]) := by
  refine Ctr.start (by decide) (Nat.le_of_ble_eq_true rfl) ?_
  intro zp ze zs zm below meth zc A ls C0 hin hK hA hl hw
  obtain ⟨hx, hb, hr, hlk, hml, hown, hts⟩ := C0
  obtain ⟨R, hRR⟩ : ∃ R : Room, R = rmL 0 0 0 := ⟨_, rfl⟩
  have hRf : R.frames = 0 := by rw [hRR]
  have hRl : R.locals = 64 * 0 := by rw [hRR]
  have hRc : R.cells = 0 := by rw [hRR]
  have hRs : R.slots = 0 := by rw [hRR]
  rw [← hRR]; clear hRR
  generalize hQ : MQ below _ _ zs _ _ A = Q
  generalize hAr : List.toArray _ = args at hts hQ ⊢
  replace hl : lv_has ls 4 [(0, .ref h0), (1, .ref hw0)] := hl
  obtain ⟨H, eH⟩ : ∃ H : Heap, H = zs.heap := ⟨_, rfl⟩
  obtain ⟨locs, eL⟩ : ∃ l0 : List Loc, l0 = [] := ⟨_, rfl⟩
  rw [← eH, ← eL] at hw ⊢; clear eH eL
  refine lv_iconst (v := nI 0) hx hb d_X_isBad_0 rfl ?_
  refine lv_istore_n (lv' := [(2, .int (nI 0)), (0, .ref h0), (1, .ref hw0)]) hx hb d_X_isBad_1 rfl hl (by decide) rfl (fun ls hl => ?_)
  have Lp2 : ∀ N_2 : Nat, ∀ (a : Nat), (a ≤ n) → (∀ i j, i < a → i < j → j < n → B (8 * dg w i + dg w j) = false) → n - a < N_2 → ∀ (H : Heap) (locs : List Loc) (ls : Array Slot), lv_has ls 4 [(0, .ref h0), (1, .ref hw0), (2, .int (nI a))] → WW G A zs ([oX h0 [.int (nI n), v1, v2, v3, v4, v5, .ref qb, v7, v8, v9, v10, v11, v12, v13, v14, v15, v16, v17, v18, v19, v20, v21, v22, v23, v24, v25, v26], aZ G qb 64 fb, oW hw0 [.ref qs, .ref qc, .int (nI w.2.length)], aI G qs 4 f]) H locs → W zp zl ze R zs zm args below meth zc H locs 0 0 Q (F0 zm 2 ls []) := by
    intro N_2
    induction N_2 with
    | zero => intros; omega
    | succ N_2 ih_2 =>
      intro a ha hg hN_2 H locs ls hl hw
      refine lv_iload_n hx hb d_X_isBad_2 rfl (lv_at hl 2 rfl) ?_
      refine lv_aload_n hx hb d_X_isBad_3 rfl (lv_at hl 0 rfl) ?_
      refine g_X_74 hx hb hts hown hK hw 0 rfl rfl d_X_isBad_4 ?_
      refine r_icmp_ge (tgt := 60) hx hb (by omega) (by omega) d_X_isBad_7 (by decide) (fun c_7 => ?_) (fun c_7 => ?_)
      · skip
        refine lv_iconst (v := nI 0) hx hb d_X_isBad_60 rfl ?_
        exact r_ret hQ (r_zret () hx hb hr hlk hw (Or.inr ⟨rfl, fun ⟨i, j, h1, h2, h3⟩ => by rw [hg i j (by omega) h1 h2] at h3; cases h3⟩) (by decide) (by omega) (by omega) d_X_isBad_61)
      · skip
        refine lv_iload_n hx hb d_X_isBad_10 rfl (lv_at hl 2 rfl) ?_
        refine lv_iconst (v := nI 1) hx hb d_X_isBad_11 rfl ?_
        refine r_iaddN hx hb d_X_isBad_12 ?_
        refine lv_istore_n (lv' := [(3, .int (nI (a + 1))), (0, .ref h0), (1, .ref hw0), (2, .int (nI a))]) hx hb d_X_isBad_13 rfl hl (by decide) rfl (fun ls hl => ?_)
        have Lp14 : ∀ N_14 : Nat, ∀ (b : Nat), (a < b ∧ b ≤ n) → (∀ j, a < j → j < b → B (8 * dg w a + dg w j) = false) → n - b < N_14 → ∀ (H : Heap) (locs : List Loc) (ls : Array Slot), lv_has ls 4 [(0, .ref h0), (1, .ref hw0), (2, .int (nI a)), (3, .int (nI b))] → WW G A zs ([oX h0 [.int (nI n), v1, v2, v3, v4, v5, .ref qb, v7, v8, v9, v10, v11, v12, v13, v14, v15, v16, v17, v18, v19, v20, v21, v22, v23, v24, v25, v26], aZ G qb 64 fb, oW hw0 [.ref qs, .ref qc, .int (nI w.2.length)], aI G qs 4 f]) H locs → W zp zl ze R zs zm args below meth zc H locs 0 0 Q (F0 zm 14 ls []) := by
          intro N_14
          induction N_14 with
          | zero => intros; omega
          | succ N_14 ih_14 =>
            intro b hb1 hg2 hN_14 H locs ls hl hw
            have hd1 := hV.dg8 (k := a) (by omega)
            have hd2 := hV.dg8 (k := b) (by omega)
            refine lv_iload_n hx hb d_X_isBad_14 rfl (lv_at hl 3 rfl) ?_
            refine lv_aload_n hx hb d_X_isBad_15 rfl (lv_at hl 0 rfl) ?_
            refine g_X_74 hx hb hts hown hK hw 0 rfl rfl d_X_isBad_16 ?_
            refine r_icmp_ge (tgt := 54) hx hb (by omega) (by omega) d_X_isBad_19 (by decide) (fun c_19 => ?_) (fun c_19 => ?_)
            · skip
              refine r_iincN (n := 1) (lv' := [(2, .int (nI (a + 1))), (0, .ref h0), (1, .ref hw0), (3, .int (nI b))]) hx hb d_X_isBad_54 hl (k := 2) rfl (by decide) rfl (fun ls hl => ?_)
              refine lv_goto (tgt := 2) hx hb d_X_isBad_57 (by decide) ?_
              exact ih_2 (a + 1) (by omega) (isb_out hg hg2 c_19) (by omega) _ _ _ (lv_sub hl [1, 2, 0] rfl) hw
            · skip
              refine lv_aload_n hx hb d_X_isBad_22 rfl (lv_at hl 0 rfl) ?_
              refine g_X_19 hx hb hts hown hK hw 0 rfl rfl d_X_isBad_23 ?_
              refine lv_bipush (v := nI 8) hx hb d_X_isBad_26 (by decide) ?_
              refine lv_aload_n hx hb d_X_isBad_28 rfl (lv_at hl 1 rfl) ?_
              refine g_X_180 hx hb hts hown hK hw 2 rfl rfl d_X_isBad_29 ?_
              refine lv_iload_n hx hb d_X_isBad_32 rfl (lv_at hl 2 rfl) ?_
              refine r_iald hx hb hK hw 3 rfl (by omega) (by omega) d_X_isBad_33 ?_
              refine r_eq (show f a = nI (dg w a) from hf a (by omega)) ?_
              refine r_imulN hx hb d_X_isBad_34 ?_
              refine lv_aload_n hx hb d_X_isBad_35 rfl (lv_at hl 1 rfl) ?_
              refine g_X_180 hx hb hts hown hK hw 2 rfl rfl d_X_isBad_36 ?_
              refine lv_iload_n hx hb d_X_isBad_39 rfl (lv_at hl 3 rfl) ?_
              refine r_iald hx hb hK hw 3 rfl (by omega) (by omega) d_X_isBad_40 ?_
              refine r_eq (show f b = nI (dg w b) from hf b (by omega)) ?_
              refine r_iaddN hx hb d_X_isBad_41 ?_
              refine r_zald hx hb hK hw 1 rfl (by omega) (by omega) d_X_isBad_42 ?_
              refine lv_if_eq (tgt := 48) hx hb d_X_isBad_43 (by decide) (fun c_43 => ?_) (fun c_43 => ?_)
              · skip
                refine r_iincN (n := 1) (lv' := [(3, .int (nI (b + 1))), (0, .ref h0), (1, .ref hw0), (2, .int (nI a))]) hx hb d_X_isBad_48 hl (k := 3) rfl (by decide) rfl (fun ls hl => ?_)
                refine lv_goto (tgt := 14) hx hb d_X_isBad_51 (by decide) ?_
                exact ih_14 (b + 1) ⟨by omega, by omega⟩ (isb_in hg2 ((isb_z hB (by omega)).mp c_43)) (by omega) _ _ _ (lv_sub hl [1, 2, 3, 0] rfl) hw
              · skip
                refine lv_iconst (v := nI 1) hx hb d_X_isBad_46 rfl ?_
                exact r_ret hQ (r_zret () hx hb hr hlk hw (Or.inl ⟨rfl, a, b, hb1.1, c_19, (isb_nz hB (by omega)).mp c_43⟩) (by decide) (by omega) (by omega) d_X_isBad_47)
        exact Lp14 _ (a + 1) ⟨by omega, by omega⟩ (fun j h1 h2 => absurd h2 (by omega)) (Nat.lt_succ_self _) _ _ _ (lv_sub hl [1, 2, 3, 0] rfl) hw
  exact Lp2 _ 0 (by omega) (fun i j hi => absurd hi (Nat.not_lt_zero _)) (Nat.lt_succ_self _) _ _ _ (lv_sub hl [1, 2, 0] rfl) hw
set_option maxHeartbeats 4000000 in
set_option maxRecDepth 100000 in
theorem c_X_grow (zl : Launch) (G : GG) (h0 q1 q2 q3 q4 q5 q6 q7 e mn : Nat) (v0 v1 v2 v3 v4 v5 v6 v7 v8 v16 v18 v19 v20 v21 v22 v23 v24 v25 v26 : Value) (fm : Nat → Int64) (f2 f3 f4 f5 f6 tb : Nat → Int32) (he : 4 * mn = 2 ^ e) (hT2 : 2 ^ (e + 1) ≤ 65536) (hmn0 : 0 < mn) (hfd : ∀ i j, i < mn → j < i → fm j ≠ fm i) : Ctr (S := Nat × Nat × Nat × Nat × Nat × Nat × Nat × (Nat → Int32)) vV zl y_X_grow b_X_grow 4 (Option.none : Option Jvm.ClassFile.FieldType) 2 7 (20 * mn) G [.ref h0] ([oX h0 [v0, v1, v2, v3, v4, v5, v6, v7, v8, .ref q1, .ref q2, .ref q3, .ref q4, .ref q5, .ref q6, .int (nI mn), v16, .ref q7, v18, v19, v20, v21, v22, v23, v24, v25, v26], aJ G q1 mn fm, aI G q2 mn f2, aI G q3 mn f3, aI G q4 mn f4, aI G q5 mn f5, aI G q6 mn f6, aI G q7 (2 ^ e) tb]) (fun _ u => TInv (e + 1) u.2.2.2.2.2.2.2 (va_cpy fm (fun _ => 0) 0 0 mn) mn) (fun u => [oX h0 [v0, v1, v2, v3, v4, v5, v6, v7, v8, .ref u.1, .ref u.2.1, .ref u.2.2.1, .ref u.2.2.2.1, .ref u.2.2.2.2.1, .ref u.2.2.2.2.2.1, .int (nI mn), v16, .ref u.2.2.2.2.2.2.1, v18, v19, v20, v21, v22, v23, v24, v25, v26], aJ G u.1 (2 * mn) (va_cpy fm (fun _ => 0) 0 0 mn), aI G u.2.1 (2 * mn) (va_cpy f2 (fun _ => 0) 0 0 mn), aI G u.2.2.1 (2 * mn) (va_cpy f3 (fun _ => 0) 0 0 mn), aI G u.2.2.2.1 (2 * mn) (va_cpy f4 (fun _ => 0) 0 0 mn), aI G u.2.2.2.2.1 (2 * mn) (va_cpy f5 (fun _ => 0) 0 0 mn), aI G u.2.2.2.2.2.1 (2 * mn) (va_cpy f6 (fun _ => 0) 0 0 mn), aI G u.2.2.2.2.2.2.1 (2 ^ (e + 1)) u.2.2.2.2.2.2.2]) := by
  refine Ctr.start (by decide) (Nat.le_of_ble_eq_true rfl) ?_
  intro zp ze zs zm below meth zc A ls C0 hin hK hA hl hw
  obtain ⟨hx, hb, hr, hlk, hml, hown, hts⟩ := C0
  obtain ⟨R, hRR⟩ : ∃ R : Room, R = rmL 2 7 (20 * mn) := ⟨_, rfl⟩
  have hRf : R.frames = 2 := by rw [hRR]
  have hRl : R.locals = 64 * 2 := by rw [hRR]
  have hRc : R.cells = 7 := by rw [hRR]
  have hRs : R.slots = 20 * mn := by rw [hRR]
  rw [← hRR]; clear hRR
  generalize hQ : MQ below _ _ zs _ _ A = Q
  generalize hAr : List.toArray _ = args at hts hQ ⊢
  replace hl : lv_has ls 4 [(0, .ref h0)] := hl
  obtain ⟨H, eH⟩ : ∃ H : Heap, H = zs.heap := ⟨_, rfl⟩
  obtain ⟨locs, eL⟩ : ∃ l0 : List Loc, l0 = [] := ⟨_, rfl⟩
  rw [← eH, ← eL] at hw ⊢; clear eH eL
  have hmb : mn ≤ 8192 := by rw [Nat.pow_succ] at hT2; omega
  have hp2 : 2 ^ (e + 1) = 8 * mn := by rw [Nat.pow_succ]; omega
  refine lv_iconst (v := nI 2) hx hb d_X_grow_0 rfl ?_
  refine lv_aload_n hx hb d_X_grow_1 rfl (lv_at hl 0 rfl) ?_
  refine g_X_99 hx hb hts hown hK hw 0 rfl rfl d_X_grow_2 ?_
  refine r_imulN hx hb d_X_grow_5 ?_
  refine lv_istore_n (lv' := [(1, .int (nI (2 * mn))), (0, .ref h0)]) hx hb d_X_grow_6 rfl hl (by decide) rfl (fun ls hl => ?_)
  refine lv_iload_n hx hb d_X_grow_7 rfl (lv_at hl 0 rfl) ?_
  refine r_newJ hx hb hts hK hA hw (by omega) (by omega) (by omega) d_X_grow_8 (fun p1 H hw1 => ?_)
  replace hw : WW G A zs ([oX h0 [v0, v1, v2, v3, v4, v5, v6, v7, v8, .ref q1, .ref q2, .ref q3, .ref q4, .ref q5, .ref q6, .int (nI mn), v16, .ref q7, v18, v19, v20, v21, v22, v23, v24, v25, v26], aJ G q1 mn fm, aI G q2 mn f2, aI G q3 mn f3, aI G q4 mn f4, aI G q5 mn f5, aI G q6 mn f6, aI G q7 (2 ^ e) tb, aJ G p1 (2 * mn) (fun _ => 0)]) H locs := hw1
  refine lv_astore_n (lv' := [(2, .ref p1), (1, .int (nI (2 * mn))), (0, .ref h0)]) hx hb d_X_grow_10 rfl hl (by decide) rfl (fun ls hl => ?_)
  refine lv_aload_n hx hb d_X_grow_11 rfl (lv_at hl 2 rfl) ?_
  refine g_X_27 hx hb hts hown hK hw 0 rfl rfl d_X_grow_12 ?_
  refine lv_iconst (v := nI 0) hx hb d_X_grow_15 rfl ?_
  refine lv_aload_n hx hb d_X_grow_16 rfl (lv_at hl 0 rfl) ?_
  refine lv_iconst (v := nI 0) hx hb d_X_grow_17 rfl ?_
  refine lv_aload_n hx hb d_X_grow_18 rfl (lv_at hl 2 rfl) ?_
  refine g_X_99 hx hb hts hown hK hw 0 rfl rfl d_X_grow_19 ?_
  refine r_copyJ hx hb (by rw [hml]; exact hl.1.symm) hts hown tm_155 tm_157 tm_156 hK hw 1 8 rfl rfl (sp := 0) (dp := 0) (n := mn) (by omega) (by omega) (by omega) (by omega) (by omega) (by rw [hRl]; exact Nat.le_of_ble_eq_true rfl) d_X_grow_22 (fun H locs hw1 => ?_)
  replace hw : WW G A zs ([oX h0 [v0, v1, v2, v3, v4, v5, v6, v7, v8, .ref q1, .ref q2, .ref q3, .ref q4, .ref q5, .ref q6, .int (nI mn), v16, .ref q7, v18, v19, v20, v21, v22, v23, v24, v25, v26], aJ G q1 mn fm, aI G q2 mn f2, aI G q3 mn f3, aI G q4 mn f4, aI G q5 mn f5, aI G q6 mn f6, aI G q7 (2 ^ e) tb, aJ G p1 (2 * mn) (va_cpy fm (fun _ => 0) 0 0 mn)]) H locs := hw1
  obtain ⟨fm2, efm2⟩ : ∃ g, g = va_cpy fm (fun _ => 0) 0 0 mn := ⟨_, rfl⟩
  rw [← efm2] at hw
  have hne : ∀ k j, k < mn → j < k → fm2 j ≠ fm2 k := grow_ne efm2 hfd
  refine lv_aload_n hx hb d_X_grow_25 rfl (lv_at hl 2 rfl) ?_
  refine lv_aload_n hx hb d_X_grow_26 rfl (lv_at hl 0 rfl) ?_
  refine p_X_27 hx hb hts hown hK hw 0 rfl (Nat.le_of_ble_eq_true rfl) d_X_grow_27 (fun H locs hw1 => ?_)
  replace hw : WW G A zs ([oX h0 [v0, v1, v2, v3, v4, v5, v6, v7, v8, .ref p1, .ref q2, .ref q3, .ref q4, .ref q5, .ref q6, .int (nI mn), v16, .ref q7, v18, v19, v20, v21, v22, v23, v24, v25, v26], aJ G q1 mn fm, aI G q2 mn f2, aI G q3 mn f3, aI G q4 mn f4, aI G q5 mn f5, aI G q6 mn f6, aI G q7 (2 ^ e) tb, aJ G p1 (2 * mn) fm2]) H locs := hw1
  refine lv_aload_n hx hb d_X_grow_30 rfl (lv_at hl 2 rfl) ?_
  refine lv_aload_n hx hb d_X_grow_31 rfl (lv_at hl 2 rfl) ?_
  refine g_X_31 hx hb hts hown hK hw 0 rfl rfl d_X_grow_32 ?_
  refine lv_iload_n hx hb d_X_grow_35 rfl (lv_at hl 1 rfl) ?_
  refine xS_r (rest := [.ref h0]) (As := [.ref q2, .int (nI (2 * mn))]) hx hb hml hown hts hK hA hw k_X_173 (c_X_longer zl G q2 mn (2 * mn) f2 (by omega) (by omega)) [2] rfl rfl (fun _ => Nat.le_of_ble_eq_true rfl) rfl rfl hl.1 (Nat.le_of_ble_eq_true rfl) ⟨(by omega), (by omega)⟩ ⟨(by omega), (by omega)⟩ d_X_grow_36 (fun r p2 H locs hp hw1 => ?_)
  subst hp
  replace hw : WW G A zs ([oX h0 [v0, v1, v2, v3, v4, v5, v6, v7, v8, .ref p1, .ref q2, .ref q3, .ref q4, .ref q5, .ref q6, .int (nI mn), v16, .ref q7, v18, v19, v20, v21, v22, v23, v24, v25, v26], aJ G q1 mn fm, aI G q2 mn f2, aI G q3 mn f3, aI G q4 mn f4, aI G q5 mn f5, aI G q6 mn f6, aI G q7 (2 ^ e) tb, aJ G p1 (2 * mn) fm2, aI G p2 (2 * mn) (va_cpy f2 (fun _ => 0) 0 0 mn)]) H locs := hw1
  refine p_X_31 hx hb hts hown hK hw 0 rfl (Nat.le_of_ble_eq_true rfl) d_X_grow_39 (fun H locs hw1 => ?_)
  replace hw : WW G A zs ([oX h0 [v0, v1, v2, v3, v4, v5, v6, v7, v8, .ref p1, .ref p2, .ref q3, .ref q4, .ref q5, .ref q6, .int (nI mn), v16, .ref q7, v18, v19, v20, v21, v22, v23, v24, v25, v26], aJ G q1 mn fm, aI G q2 mn f2, aI G q3 mn f3, aI G q4 mn f4, aI G q5 mn f5, aI G q6 mn f6, aI G q7 (2 ^ e) tb, aJ G p1 (2 * mn) fm2, aI G p2 (2 * mn) (va_cpy f2 (fun _ => 0) 0 0 mn)]) H locs := hw1
  refine lv_aload_n hx hb d_X_grow_42 rfl (lv_at hl 2 rfl) ?_
  refine lv_aload_n hx hb d_X_grow_43 rfl (lv_at hl 2 rfl) ?_
  refine g_X_34 hx hb hts hown hK hw 0 rfl rfl d_X_grow_44 ?_
  refine lv_iload_n hx hb d_X_grow_47 rfl (lv_at hl 1 rfl) ?_
  refine xS_r (rest := [.ref h0]) (As := [.ref q3, .int (nI (2 * mn))]) hx hb hml hown hts hK hA hw k_X_173 (c_X_longer zl G q3 mn (2 * mn) f3 (by omega) (by omega)) [3] rfl rfl (fun _ => Nat.le_of_ble_eq_true rfl) rfl rfl hl.1 (Nat.le_of_ble_eq_true rfl) ⟨(by omega), (by omega)⟩ ⟨(by omega), (by omega)⟩ d_X_grow_48 (fun r p3 H locs hp hw1 => ?_)
  subst hp
  replace hw : WW G A zs ([oX h0 [v0, v1, v2, v3, v4, v5, v6, v7, v8, .ref p1, .ref p2, .ref q3, .ref q4, .ref q5, .ref q6, .int (nI mn), v16, .ref q7, v18, v19, v20, v21, v22, v23, v24, v25, v26], aJ G q1 mn fm, aI G q2 mn f2, aI G q3 mn f3, aI G q4 mn f4, aI G q5 mn f5, aI G q6 mn f6, aI G q7 (2 ^ e) tb, aJ G p1 (2 * mn) fm2, aI G p2 (2 * mn) (va_cpy f2 (fun _ => 0) 0 0 mn), aI G p3 (2 * mn) (va_cpy f3 (fun _ => 0) 0 0 mn)]) H locs := hw1
  refine p_X_34 hx hb hts hown hK hw 0 rfl (Nat.le_of_ble_eq_true rfl) d_X_grow_51 (fun H locs hw1 => ?_)
  replace hw : WW G A zs ([oX h0 [v0, v1, v2, v3, v4, v5, v6, v7, v8, .ref p1, .ref p2, .ref p3, .ref q4, .ref q5, .ref q6, .int (nI mn), v16, .ref q7, v18, v19, v20, v21, v22, v23, v24, v25, v26], aJ G q1 mn fm, aI G q2 mn f2, aI G q3 mn f3, aI G q4 mn f4, aI G q5 mn f5, aI G q6 mn f6, aI G q7 (2 ^ e) tb, aJ G p1 (2 * mn) fm2, aI G p2 (2 * mn) (va_cpy f2 (fun _ => 0) 0 0 mn), aI G p3 (2 * mn) (va_cpy f3 (fun _ => 0) 0 0 mn)]) H locs := hw1
  refine lv_aload_n hx hb d_X_grow_54 rfl (lv_at hl 2 rfl) ?_
  refine lv_aload_n hx hb d_X_grow_55 rfl (lv_at hl 2 rfl) ?_
  refine g_X_37 hx hb hts hown hK hw 0 rfl rfl d_X_grow_56 ?_
  refine lv_iload_n hx hb d_X_grow_59 rfl (lv_at hl 1 rfl) ?_
  refine xS_r (rest := [.ref h0]) (As := [.ref q4, .int (nI (2 * mn))]) hx hb hml hown hts hK hA hw k_X_173 (c_X_longer zl G q4 mn (2 * mn) f4 (by omega) (by omega)) [4] rfl rfl (fun _ => Nat.le_of_ble_eq_true rfl) rfl rfl hl.1 (Nat.le_of_ble_eq_true rfl) ⟨(by omega), (by omega)⟩ ⟨(by omega), (by omega)⟩ d_X_grow_60 (fun r p4 H locs hp hw1 => ?_)
  subst hp
  replace hw : WW G A zs ([oX h0 [v0, v1, v2, v3, v4, v5, v6, v7, v8, .ref p1, .ref p2, .ref p3, .ref q4, .ref q5, .ref q6, .int (nI mn), v16, .ref q7, v18, v19, v20, v21, v22, v23, v24, v25, v26], aJ G q1 mn fm, aI G q2 mn f2, aI G q3 mn f3, aI G q4 mn f4, aI G q5 mn f5, aI G q6 mn f6, aI G q7 (2 ^ e) tb, aJ G p1 (2 * mn) fm2, aI G p2 (2 * mn) (va_cpy f2 (fun _ => 0) 0 0 mn), aI G p3 (2 * mn) (va_cpy f3 (fun _ => 0) 0 0 mn), aI G p4 (2 * mn) (va_cpy f4 (fun _ => 0) 0 0 mn)]) H locs := hw1
  refine p_X_37 hx hb hts hown hK hw 0 rfl (Nat.le_of_ble_eq_true rfl) d_X_grow_63 (fun H locs hw1 => ?_)
  replace hw : WW G A zs ([oX h0 [v0, v1, v2, v3, v4, v5, v6, v7, v8, .ref p1, .ref p2, .ref p3, .ref p4, .ref q5, .ref q6, .int (nI mn), v16, .ref q7, v18, v19, v20, v21, v22, v23, v24, v25, v26], aJ G q1 mn fm, aI G q2 mn f2, aI G q3 mn f3, aI G q4 mn f4, aI G q5 mn f5, aI G q6 mn f6, aI G q7 (2 ^ e) tb, aJ G p1 (2 * mn) fm2, aI G p2 (2 * mn) (va_cpy f2 (fun _ => 0) 0 0 mn), aI G p3 (2 * mn) (va_cpy f3 (fun _ => 0) 0 0 mn), aI G p4 (2 * mn) (va_cpy f4 (fun _ => 0) 0 0 mn)]) H locs := hw1
  refine lv_aload_n hx hb d_X_grow_66 rfl (lv_at hl 2 rfl) ?_
  refine lv_aload_n hx hb d_X_grow_67 rfl (lv_at hl 2 rfl) ?_
  refine g_X_40 hx hb hts hown hK hw 0 rfl rfl d_X_grow_68 ?_
  refine lv_iload_n hx hb d_X_grow_71 rfl (lv_at hl 1 rfl) ?_
  refine xS_r (rest := [.ref h0]) (As := [.ref q5, .int (nI (2 * mn))]) hx hb hml hown hts hK hA hw k_X_173 (c_X_longer zl G q5 mn (2 * mn) f5 (by omega) (by omega)) [5] rfl rfl (fun _ => Nat.le_of_ble_eq_true rfl) rfl rfl hl.1 (Nat.le_of_ble_eq_true rfl) ⟨(by omega), (by omega)⟩ ⟨(by omega), (by omega)⟩ d_X_grow_72 (fun r p5 H locs hp hw1 => ?_)
  subst hp
  replace hw : WW G A zs ([oX h0 [v0, v1, v2, v3, v4, v5, v6, v7, v8, .ref p1, .ref p2, .ref p3, .ref p4, .ref q5, .ref q6, .int (nI mn), v16, .ref q7, v18, v19, v20, v21, v22, v23, v24, v25, v26], aJ G q1 mn fm, aI G q2 mn f2, aI G q3 mn f3, aI G q4 mn f4, aI G q5 mn f5, aI G q6 mn f6, aI G q7 (2 ^ e) tb, aJ G p1 (2 * mn) fm2, aI G p2 (2 * mn) (va_cpy f2 (fun _ => 0) 0 0 mn), aI G p3 (2 * mn) (va_cpy f3 (fun _ => 0) 0 0 mn), aI G p4 (2 * mn) (va_cpy f4 (fun _ => 0) 0 0 mn), aI G p5 (2 * mn) (va_cpy f5 (fun _ => 0) 0 0 mn)]) H locs := hw1
  refine p_X_40 hx hb hts hown hK hw 0 rfl (Nat.le_of_ble_eq_true rfl) d_X_grow_75 (fun H locs hw1 => ?_)
  replace hw : WW G A zs ([oX h0 [v0, v1, v2, v3, v4, v5, v6, v7, v8, .ref p1, .ref p2, .ref p3, .ref p4, .ref p5, .ref q6, .int (nI mn), v16, .ref q7, v18, v19, v20, v21, v22, v23, v24, v25, v26], aJ G q1 mn fm, aI G q2 mn f2, aI G q3 mn f3, aI G q4 mn f4, aI G q5 mn f5, aI G q6 mn f6, aI G q7 (2 ^ e) tb, aJ G p1 (2 * mn) fm2, aI G p2 (2 * mn) (va_cpy f2 (fun _ => 0) 0 0 mn), aI G p3 (2 * mn) (va_cpy f3 (fun _ => 0) 0 0 mn), aI G p4 (2 * mn) (va_cpy f4 (fun _ => 0) 0 0 mn), aI G p5 (2 * mn) (va_cpy f5 (fun _ => 0) 0 0 mn)]) H locs := hw1
  refine lv_aload_n hx hb d_X_grow_78 rfl (lv_at hl 2 rfl) ?_
  refine lv_aload_n hx hb d_X_grow_79 rfl (lv_at hl 2 rfl) ?_
  refine g_X_43 hx hb hts hown hK hw 0 rfl rfl d_X_grow_80 ?_
  refine lv_iload_n hx hb d_X_grow_83 rfl (lv_at hl 1 rfl) ?_
  refine xS_r (rest := [.ref h0]) (As := [.ref q6, .int (nI (2 * mn))]) hx hb hml hown hts hK hA hw k_X_173 (c_X_longer zl G q6 mn (2 * mn) f6 (by omega) (by omega)) [6] rfl rfl (fun _ => Nat.le_of_ble_eq_true rfl) rfl rfl hl.1 (Nat.le_of_ble_eq_true rfl) ⟨(by omega), (by omega)⟩ ⟨(by omega), (by omega)⟩ d_X_grow_84 (fun r p6 H locs hp hw1 => ?_)
  subst hp
  replace hw : WW G A zs ([oX h0 [v0, v1, v2, v3, v4, v5, v6, v7, v8, .ref p1, .ref p2, .ref p3, .ref p4, .ref p5, .ref q6, .int (nI mn), v16, .ref q7, v18, v19, v20, v21, v22, v23, v24, v25, v26], aJ G q1 mn fm, aI G q2 mn f2, aI G q3 mn f3, aI G q4 mn f4, aI G q5 mn f5, aI G q6 mn f6, aI G q7 (2 ^ e) tb, aJ G p1 (2 * mn) fm2, aI G p2 (2 * mn) (va_cpy f2 (fun _ => 0) 0 0 mn), aI G p3 (2 * mn) (va_cpy f3 (fun _ => 0) 0 0 mn), aI G p4 (2 * mn) (va_cpy f4 (fun _ => 0) 0 0 mn), aI G p5 (2 * mn) (va_cpy f5 (fun _ => 0) 0 0 mn), aI G p6 (2 * mn) (va_cpy f6 (fun _ => 0) 0 0 mn)]) H locs := hw1
  refine p_X_43 hx hb hts hown hK hw 0 rfl (Nat.le_of_ble_eq_true rfl) d_X_grow_87 (fun H locs hw1 => ?_)
  replace hw : WW G A zs ([oX h0 [v0, v1, v2, v3, v4, v5, v6, v7, v8, .ref p1, .ref p2, .ref p3, .ref p4, .ref p5, .ref p6, .int (nI mn), v16, .ref q7, v18, v19, v20, v21, v22, v23, v24, v25, v26], aJ G q1 mn fm, aI G q2 mn f2, aI G q3 mn f3, aI G q4 mn f4, aI G q5 mn f5, aI G q6 mn f6, aI G q7 (2 ^ e) tb, aJ G p1 (2 * mn) fm2, aI G p2 (2 * mn) (va_cpy f2 (fun _ => 0) 0 0 mn), aI G p3 (2 * mn) (va_cpy f3 (fun _ => 0) 0 0 mn), aI G p4 (2 * mn) (va_cpy f4 (fun _ => 0) 0 0 mn), aI G p5 (2 * mn) (va_cpy f5 (fun _ => 0) 0 0 mn), aI G p6 (2 * mn) (va_cpy f6 (fun _ => 0) 0 0 mn)]) H locs := hw1
  refine lv_aload_n hx hb d_X_grow_90 rfl (lv_at hl 2 rfl) ?_
  refine lv_iconst (v := nI 4) hx hb d_X_grow_91 rfl ?_
  refine lv_iload_n hx hb d_X_grow_92 rfl (lv_at hl 1 rfl) ?_
  refine r_imulN hx hb d_X_grow_93 ?_
  refine r_eq (show nI (4 * (2 * mn)) = nI (2 ^ (e + 1)) from congrArg nI (by rw [Nat.pow_succ]; omega)) ?_
  refine r_newI hx hb hts hK hA hw (by omega) (by omega) (by omega) d_X_grow_94 (fun p7 H hw1 => ?_)
  replace hw : WW G A zs ([oX h0 [v0, v1, v2, v3, v4, v5, v6, v7, v8, .ref p1, .ref p2, .ref p3, .ref p4, .ref p5, .ref p6, .int (nI mn), v16, .ref q7, v18, v19, v20, v21, v22, v23, v24, v25, v26], aJ G q1 mn fm, aI G q2 mn f2, aI G q3 mn f3, aI G q4 mn f4, aI G q5 mn f5, aI G q6 mn f6, aI G q7 (2 ^ e) tb, aJ G p1 (2 * mn) fm2, aI G p2 (2 * mn) (va_cpy f2 (fun _ => 0) 0 0 mn), aI G p3 (2 * mn) (va_cpy f3 (fun _ => 0) 0 0 mn), aI G p4 (2 * mn) (va_cpy f4 (fun _ => 0) 0 0 mn), aI G p5 (2 * mn) (va_cpy f5 (fun _ => 0) 0 0 mn), aI G p6 (2 * mn) (va_cpy f6 (fun _ => 0) 0 0 mn), aI G p7 (2 ^ (e + 1)) (fun _ => 0)]) H locs := hw1
  refine p_X_46 hx hb hts hown hK hw 0 rfl (Nat.le_of_ble_eq_true rfl) d_X_grow_96 (fun H locs hw1 => ?_)
  replace hw : WW G A zs ([oX h0 [v0, v1, v2, v3, v4, v5, v6, v7, v8, .ref p1, .ref p2, .ref p3, .ref p4, .ref p5, .ref p6, .int (nI mn), v16, .ref p7, v18, v19, v20, v21, v22, v23, v24, v25, v26], aJ G q1 mn fm, aI G q2 mn f2, aI G q3 mn f3, aI G q4 mn f4, aI G q5 mn f5, aI G q6 mn f6, aI G q7 (2 ^ e) tb, aJ G p1 (2 * mn) fm2, aI G p2 (2 * mn) (va_cpy f2 (fun _ => 0) 0 0 mn), aI G p3 (2 * mn) (va_cpy f3 (fun _ => 0) 0 0 mn), aI G p4 (2 * mn) (va_cpy f4 (fun _ => 0) 0 0 mn), aI G p5 (2 * mn) (va_cpy f5 (fun _ => 0) 0 0 mn), aI G p6 (2 * mn) (va_cpy f6 (fun _ => 0) 0 0 mn), aI G p7 (2 ^ (e + 1)) (fun _ => 0)]) H locs := hw1
  refine lv_iconst (v := nI 0) hx hb d_X_grow_99 rfl ?_
  refine lv_istore_n (lv' := [(3, .int (nI 0)), (2, .ref p1), (1, .int (nI (2 * mn))), (0, .ref h0)]) hx hb d_X_grow_100 rfl hl (by decide) rfl (fun ls hl => ?_)
  have Lp101 : ∀ N_101 : Nat, ∀ (k : Nat) (tb2 : Nat → Int32), (k ≤ 2 ^ (e + 1)) → (∀ i, i < k → tb2 i = -1) → 2 ^ (e + 1) - k < N_101 → ∀ (H : Heap) (locs : List Loc) (ls : Array Slot), lv_has ls 4 [(0, .ref h0), (3, .int (nI k))] → WW G A zs ([oX h0 [v0, v1, v2, v3, v4, v5, v6, v7, v8, .ref p1, .ref p2, .ref p3, .ref p4, .ref p5, .ref p6, .int (nI mn), v16, .ref p7, v18, v19, v20, v21, v22, v23, v24, v25, v26], aJ G q1 mn fm, aI G q2 mn f2, aI G q3 mn f3, aI G q4 mn f4, aI G q5 mn f5, aI G q6 mn f6, aI G q7 (2 ^ e) tb, aJ G p1 (2 * mn) fm2, aI G p2 (2 * mn) (va_cpy f2 (fun _ => 0) 0 0 mn), aI G p3 (2 * mn) (va_cpy f3 (fun _ => 0) 0 0 mn), aI G p4 (2 * mn) (va_cpy f4 (fun _ => 0) 0 0 mn), aI G p5 (2 * mn) (va_cpy f5 (fun _ => 0) 0 0 mn), aI G p6 (2 * mn) (va_cpy f6 (fun _ => 0) 0 0 mn), aI G p7 (2 ^ (e + 1)) tb2]) H locs → W zp zl ze R zs zm args below meth zc H locs (0 + 1 + 1 + 1 + 1 + 1 + 1 + 1) (0 + (2 * mn) + (2 * mn) + (2 * mn) + (2 * mn) + (2 * mn) + (2 * mn) + (2 ^ (e + 1))) Q (F0 zm 101 ls []) := by
    intro N_101
    induction N_101 with
    | zero => intros; omega
    | succ N_101 ih_101 =>
      intro k tb2 hk ht hN_101 H locs ls hl hw
      refine lv_iload_n hx hb d_X_grow_101 rfl (lv_at hl 1 rfl) ?_
      refine lv_aload_n hx hb d_X_grow_102 rfl (lv_at hl 0 rfl) ?_
      refine g_X_46 hx hb hts hown hK hw 0 rfl rfl d_X_grow_103 ?_
      refine r_alen hx hb hK hw 14 rfl d_X_grow_106 ?_
      refine r_icmp_ge (tgt := 123) hx hb (by omega) (by omega) d_X_grow_107 (by decide) (fun c_107 => ?_) (fun c_107 => ?_)
      · skip
        refine lv_iconst (v := nI 0) hx hb d_X_grow_123 rfl ?_
        refine lv_istore_n (lv' := [(3, .int (nI 0)), (0, .ref h0)]) hx hb d_X_grow_124 rfl hl (by decide) rfl (fun ls hl => ?_)
        have Lp125 : ∀ N_125 : Nat, ∀ (k : Nat) (tb3 : Nat → Int32), (k ≤ mn) → (TInv (e + 1) tb3 fm2 k) → mn - k < N_125 → ∀ (H : Heap) (locs : List Loc) (ls : Array Slot), lv_has ls 4 [(0, .ref h0), (3, .int (nI k))] → WW G A zs ([oX h0 [v0, v1, v2, v3, v4, v5, v6, v7, v8, .ref p1, .ref p2, .ref p3, .ref p4, .ref p5, .ref p6, .int (nI mn), v16, .ref p7, v18, v19, v20, v21, v22, v23, v24, v25, v26], aJ G q1 mn fm, aI G q2 mn f2, aI G q3 mn f3, aI G q4 mn f4, aI G q5 mn f5, aI G q6 mn f6, aI G q7 (2 ^ e) tb, aJ G p1 (2 * mn) fm2, aI G p2 (2 * mn) (va_cpy f2 (fun _ => 0) 0 0 mn), aI G p3 (2 * mn) (va_cpy f3 (fun _ => 0) 0 0 mn), aI G p4 (2 * mn) (va_cpy f4 (fun _ => 0) 0 0 mn), aI G p5 (2 * mn) (va_cpy f5 (fun _ => 0) 0 0 mn), aI G p6 (2 * mn) (va_cpy f6 (fun _ => 0) 0 0 mn), aI G p7 (2 ^ (e + 1)) tb3]) H locs → W zp zl ze R zs zm args below meth zc H locs (0 + 1 + 1 + 1 + 1 + 1 + 1 + 1) (0 + (2 * mn) + (2 * mn) + (2 * mn) + (2 * mn) + (2 * mn) + (2 * mn) + (2 ^ (e + 1))) Q (F0 zm 125 ls []) := by
          intro N_125
          induction N_125 with
          | zero => intros; omega
          | succ N_125 ih_125 =>
            intro k tb3 hk3 hT3 hN_125 H locs ls hl hw
            refine lv_iload_n hx hb d_X_grow_125 rfl (lv_at hl 1 rfl) ?_
            refine lv_aload_n hx hb d_X_grow_126 rfl (lv_at hl 0 rfl) ?_
            refine g_X_99 hx hb hts hown hK hw 0 rfl rfl d_X_grow_127 ?_
            refine r_icmp_ge (tgt := 155) hx hb (by omega) (by omega) d_X_grow_130 (by decide) (fun c_130 => ?_) (fun c_130 => ?_)
            · skip
              replace hw : WW G A zs ([oX h0 [v0, v1, v2, v3, v4, v5, v6, v7, v8, .ref p1, .ref p2, .ref p3, .ref p4, .ref p5, .ref p6, .int (nI mn), v16, .ref p7, v18, v19, v20, v21, v22, v23, v24, v25, v26], aJ G p1 (2 * mn) fm2, aI G p2 (2 * mn) (va_cpy f2 (fun _ => 0) 0 0 mn), aI G p3 (2 * mn) (va_cpy f3 (fun _ => 0) 0 0 mn), aI G p4 (2 * mn) (va_cpy f4 (fun _ => 0) 0 0 mn), aI G p5 (2 * mn) (va_cpy f5 (fun _ => 0) 0 0 mn), aI G p6 (2 * mn) (va_cpy f6 (fun _ => 0) 0 0 mn), aI G p7 (2 ^ (e + 1)) tb3]) H locs := hw.sub [0, 8, 9, 10, 11, 12, 13, 14] rfl rfl
              rw [efm2] at hw
              exact r_ret hQ (r_vret (p1, p2, p3, p4, p5, p6, p7, tb3) hx hb hr hlk hw (by rw [← efm2, show mn = k by omega]; exact hT3) (by omega) (by omega) d_X_grow_155)
            · skip
              refine lv_aload_n hx hb d_X_grow_133 rfl (lv_at hl 0 rfl) ?_
              refine g_X_46 hx hb hts hown hK hw 0 rfl rfl d_X_grow_134 ?_
              refine lv_aload_n hx hb d_X_grow_137 rfl (lv_at hl 0 rfl) ?_
              refine lv_aload_n hx hb d_X_grow_138 rfl (lv_at hl 0 rfl) ?_
              refine g_X_27 hx hb hts hown hK hw 0 rfl rfl d_X_grow_139 ?_
              refine lv_iload_n hx hb d_X_grow_142 rfl (lv_at hl 1 rfl) ?_
              refine r_lald hx hb hK hw 8 rfl (by omega) (by omega) d_X_grow_143 ?_
              refine xV_i (rest := [.ref p7]) (As := [.long (fm2 k)]) hx hb hml hown hts hK hA hw k_X_177 (c_X_find zl G h0 p7 p1 (e + 1) (2 * mn) k v0 v1 v2 v3 v4 v5 v6 v7 v8 (.ref p2) (.ref p3) (.ref p4) (.ref p5) (.ref p6) (.int (nI mn)) v16 v18 v19 v20 v21 v22 v23 v24 v25 v26 tb3 fm2 (fm2 k) hT2 (by omega) (by omega) (by omega) (by omega) (by omega) hT3) [0, 14, 8] rfl rfl (fun _ => Nat.le_of_ble_eq_true rfl) 0 rfl rfl rfl rfl hl.1 (Nat.le_of_ble_eq_true rfl) ⟨(by omega), (by omega)⟩ ⟨(by omega), (by omega)⟩ d_X_grow_144 (fun r p9 H locs hp hw1 => ?_)
              obtain ⟨rfl, hFR⟩ := hp
              have hp9 := hFR.1
              refine W.cs (cells' := 0 + 1 + 1 + 1 + 1 + 1 + 1 + 1) (slots' := 0 + (2 * mn) + (2 * mn) + (2 * mn) + (2 * mn) + (2 * mn) + (2 * mn) + (2 ^ (e + 1))) rfl rfl ?_
              replace hw : WW G A zs ([oX h0 [v0, v1, v2, v3, v4, v5, v6, v7, v8, .ref p1, .ref p2, .ref p3, .ref p4, .ref p5, .ref p6, .int (nI mn), v16, .ref p7, v18, v19, v20, v21, v22, v23, v24, v25, v26], aJ G q1 mn fm, aI G q2 mn f2, aI G q3 mn f3, aI G q4 mn f4, aI G q5 mn f5, aI G q6 mn f6, aI G q7 (2 ^ e) tb, aJ G p1 (2 * mn) fm2, aI G p2 (2 * mn) (va_cpy f2 (fun _ => 0) 0 0 mn), aI G p3 (2 * mn) (va_cpy f3 (fun _ => 0) 0 0 mn), aI G p4 (2 * mn) (va_cpy f4 (fun _ => 0) 0 0 mn), aI G p5 (2 * mn) (va_cpy f5 (fun _ => 0) 0 0 mn), aI G p6 (2 * mn) (va_cpy f6 (fun _ => 0) 0 0 mn), aI G p7 (2 ^ (e + 1)) tb3]) H locs := hw1
              refine lv_iload_n hx hb d_X_grow_147 rfl (lv_at hl 1 rfl) ?_
              refine r_iast hx hb hK hw 14 rfl (by omega) (by omega) d_X_grow_148 (fun H locs hw1 => ?_)
              replace hw : WW G A zs ([oX h0 [v0, v1, v2, v3, v4, v5, v6, v7, v8, .ref p1, .ref p2, .ref p3, .ref p4, .ref p5, .ref p6, .int (nI mn), v16, .ref p7, v18, v19, v20, v21, v22, v23, v24, v25, v26], aJ G q1 mn fm, aI G q2 mn f2, aI G q3 mn f3, aI G q4 mn f4, aI G q5 mn f5, aI G q6 mn f6, aI G q7 (2 ^ e) tb, aJ G p1 (2 * mn) fm2, aI G p2 (2 * mn) (va_cpy f2 (fun _ => 0) 0 0 mn), aI G p3 (2 * mn) (va_cpy f3 (fun _ => 0) 0 0 mn), aI G p4 (2 * mn) (va_cpy f4 (fun _ => 0) 0 0 mn), aI G p5 (2 * mn) (va_cpy f5 (fun _ => 0) 0 0 mn), aI G p6 (2 * mn) (va_cpy f6 (fun _ => 0) 0 0 mn), aI G p7 (2 ^ (e + 1)) (upd tb3 p9 (nI k))]) H locs := hw1
              refine r_iincN (n := 1) (lv' := [(3, .int (nI (k + 1))), (0, .ref h0)]) hx hb d_X_grow_149 hl (k := 1) rfl (by decide) rfl (fun ls hl => ?_)
              refine lv_goto (tgt := 125) hx hb d_X_grow_152 (by decide) ?_
              exact ih_125 (k + 1) (upd tb3 p9 (nI k)) (by omega) (hT3.put (by omega) hFR (fun j hj => hne k j c_130 hj) (fun _ _ => rfl) rfl) (by omega) _ _ _ (lv_sub hl [1, 0] rfl) hw
        exact Lp125 _ 0 tb2 (by omega) (TInv.init _ _ (fun i hi => ht i (by omega))) (Nat.lt_succ_self _) _ _ _ (lv_sub hl [1, 0] rfl) hw
      · skip
        refine lv_aload_n hx hb d_X_grow_110 rfl (lv_at hl 0 rfl) ?_
        refine g_X_46 hx hb hts hown hK hw 0 rfl rfl d_X_grow_111 ?_
        refine lv_iload_n hx hb d_X_grow_114 rfl (lv_at hl 1 rfl) ?_
        refine lv_iconst (v := -1) hx hb d_X_grow_115 (by decide) ?_
        refine r_iast hx hb hK hw 14 rfl (by omega) (by omega) d_X_grow_116 (fun H locs hw1 => ?_)
        replace hw : WW G A zs ([oX h0 [v0, v1, v2, v3, v4, v5, v6, v7, v8, .ref p1, .ref p2, .ref p3, .ref p4, .ref p5, .ref p6, .int (nI mn), v16, .ref p7, v18, v19, v20, v21, v22, v23, v24, v25, v26], aJ G q1 mn fm, aI G q2 mn f2, aI G q3 mn f3, aI G q4 mn f4, aI G q5 mn f5, aI G q6 mn f6, aI G q7 (2 ^ e) tb, aJ G p1 (2 * mn) fm2, aI G p2 (2 * mn) (va_cpy f2 (fun _ => 0) 0 0 mn), aI G p3 (2 * mn) (va_cpy f3 (fun _ => 0) 0 0 mn), aI G p4 (2 * mn) (va_cpy f4 (fun _ => 0) 0 0 mn), aI G p5 (2 * mn) (va_cpy f5 (fun _ => 0) 0 0 mn), aI G p6 (2 * mn) (va_cpy f6 (fun _ => 0) 0 0 mn), aI G p7 (2 ^ (e + 1)) (upd tb2 k (-1))]) H locs := hw1
        refine r_iincN (n := 1) (lv' := [(3, .int (nI (k + 1))), (0, .ref h0)]) hx hb d_X_grow_117 hl (k := 1) rfl (by decide) rfl (fun ls hl => ?_)
        refine lv_goto (tgt := 101) hx hb d_X_grow_120 (by decide) ?_
        exact ih_101 (k + 1) (upd tb2 k (-1)) (by omega) (upd_lt ht rfl) (by omega) _ _ _ (lv_sub hl [1, 0] rfl) hw
  exact Lp101 _ 0 (fun _ => 0) (by omega) (fun i hi => absurd hi (Nat.not_lt_zero _)) (Nat.lt_succ_self _) _ _ _ (lv_sub hl [3, 0] rfl) hw
