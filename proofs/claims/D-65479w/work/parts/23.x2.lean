set_option maxHeartbeats 4000000 in
set_option maxRecDepth 100000 in
theorem c_X_slot (zl : Launch) (G : GG) (h0 qt e : Nat) (v0 v1 v2 v3 v4 v5 v6 v7 v8 v9 v10 v11 v12 v13 v14 v15 v16 v18 v19 v20 v21 v22 v23 v24 v25 v26 : Value) (tb : Nat → Int32) (v : Int64) (hT : 2 ^ e ≤ 65536) (hT0 : 0 < 2 ^ e) : Ctr (S := Unit) vI zl y_X_slot b_X_slot 5 (Option.some Jvm.ClassFile.FieldType.int) 0 0 0 G [.ref h0, .long v] ([oX h0 [v0, v1, v2, v3, v4, v5, v6, v7, v8, v9, v10, v11, v12, v13, v14, v15, v16, .ref qt, v18, v19, v20, v21, v22, v23, v24, v25, v26], aI G qt (2 ^ e) tb]) (fun r _ => r = nI (slN v e)) (fun _ => [oX h0 [v0, v1, v2, v3, v4, v5, v6, v7, v8, v9, v10, v11, v12, v13, v14, v15, v16, .ref qt, v18, v19, v20, v21, v22, v23, v24, v25, v26], aI G qt (2 ^ e) tb]) := by
  refine Ctr.start (by decide) (Nat.le_of_ble_eq_true rfl) ?_
  intro zp ze zs zm below meth zc A ls C0 hin hK hA hl hw
  obtain ⟨hx, hb, hr, hlk, hml, hown, hts⟩ := C0
  obtain ⟨R, hRR⟩ : ∃ R : Room, R = rmL 0 0 0 := ⟨_, rfl⟩
  have hRf : R.frames = 0 := by rw [hRR]
  have hRl : R.locals = 64 * 0 := by rw [hRR]
  have hRc : R.cells = 0 := by rw [hRR]
  have hRs : R.slots = 0 := by rw [hRR]
  rw [← hRR]; clear hRR
  generalize hQ : MQ below _ _ zs _ _ A = Q
  generalize hAr : List.toArray _ = args at hts hQ ⊢
  replace hl : lv_has ls 5 [(0, .ref h0), (1, .long v)] := hl
  obtain ⟨H, eH⟩ : ∃ H : Heap, H = zs.heap := ⟨_, rfl⟩
  obtain ⟨locs, eL⟩ : ∃ l0 : List Loc, l0 = [] := ⟨_, rfl⟩
  rw [← eH, ← eL] at hw ⊢; clear eH eL
  refine lv_lload_n hx hb d_X_slot_0 rfl (lv_at hl 1 rfl) ?_
  refine lv_ldc2 (v := (-7046029254386353131)) hx hb hown (hts _ tm_185) d_X_slot_1 ?_
  refine lv_lmul hx hb d_X_slot_4 ?_
  refine lv_lstore_n (lv' := [(3, .long (v * (-7046029254386353131))), (0, .ref h0), (1, .long v)]) hx hb d_X_slot_5 rfl hl (by decide) rfl (fun ls hl => ?_)
  refine lv_lload_n hx hb d_X_slot_6 rfl (lv_at hl 0 rfl) ?_
  refine lv_bipush (v := nI 40) hx hb d_X_slot_7 (by decide) ?_
  refine lv_lushr (v := ((v * (-7046029254386353131)).toUInt64 >>> ((nI 40).toInt64.toUInt64 &&& Int64.toUInt64 63)).toInt64) hx hb d_X_slot_9 rfl ?_
  refine lv_l2i (v := (((v * (-7046029254386353131)).toUInt64 >>> ((nI 40).toInt64.toUInt64 &&& Int64.toUInt64 63)).toInt64).toInt32) hx hb d_X_slot_10 rfl ?_
  refine lv_aload_n hx hb d_X_slot_11 rfl (lv_at hl 1 rfl) ?_
  refine g_X_46 hx hb hts hown hK hw 0 rfl rfl d_X_slot_12 ?_
  refine r_alen hx hb hK hw 1 rfl d_X_slot_15 ?_
  refine lv_iconst (v := nI 1) hx hb d_X_slot_16 rfl ?_
  refine r_isubN hx hb (by omega) d_X_slot_17 ?_
  refine lv_iand hx hb d_X_slot_18 ?_
  refine r_eq (show ((((v * (-7046029254386353131)).toUInt64 >>> ((nI 40).toInt64.toUInt64 &&& Int64.toUInt64 63)).toInt64).toInt32) &&& (nI ((2 ^ e) - 1)) = nI (slN v e) from pk_and _ e (pk_tn (by omega))) ?_
  exact r_ret hQ (r_iret () hx hb hr hlk hw rfl (by omega) (by omega) d_X_slot_19)
set_option maxHeartbeats 4000000 in
set_option maxRecDepth 100000 in
theorem c_X_find (zl : Launch) (G : GG) (h0 qt qf e ln mn : Nat) (v0 v1 v2 v3 v4 v5 v6 v7 v8 v10 v11 v12 v13 v14 v15 v16 v18 v19 v20 v21 v22 v23 v24 v25 v26 : Value) (tb : Nat → Int32) (fm : Nat → Int64) (v : Int64) (hT : 2 ^ e ≤ 65536) (hT0 : 0 < 2 ^ e) (hmn : mn < 2147483648) (hml1 : mn < 2 ^ e) (hml2 : mn ≤ ln) (hln : ln < 2147483648) (hI : TInv e tb fm mn) : Ctr (S := Nat) vI zl y_X_find b_X_find 4 (Option.some Jvm.ClassFile.FieldType.int) 1 0 0 G [.ref h0, .long v] ([oX h0 [v0, v1, v2, v3, v4, v5, v6, v7, v8, .ref qf, v10, v11, v12, v13, v14, v15, v16, .ref qt, v18, v19, v20, v21, v22, v23, v24, v25, v26], aI G qt (2 ^ e) tb, aJ G qf ln fm]) (fun r p => r = nI p ∧ FR e tb fm mn v p) (fun _ => [oX h0 [v0, v1, v2, v3, v4, v5, v6, v7, v8, .ref qf, v10, v11, v12, v13, v14, v15, v16, .ref qt, v18, v19, v20, v21, v22, v23, v24, v25, v26], aI G qt (2 ^ e) tb, aJ G qf ln fm]) := by
  refine Ctr.start (by decide) (Nat.le_of_ble_eq_true rfl) ?_
  intro zp ze zs zm below meth zc A ls C0 hin hK hA hl hw
  obtain ⟨hx, hb, hr, hlk, hml, hown, hts⟩ := C0
  obtain ⟨R, hRR⟩ : ∃ R : Room, R = rmL 1 0 0 := ⟨_, rfl⟩
  have hRf : R.frames = 1 := by rw [hRR]
  have hRl : R.locals = 64 * 1 := by rw [hRR]
  have hRc : R.cells = 0 := by rw [hRR]
  have hRs : R.slots = 0 := by rw [hRR]
  rw [← hRR]; clear hRR
  generalize hQ : MQ below _ _ zs _ _ A = Q
  generalize hAr : List.toArray _ = args at hts hQ ⊢
  replace hl : lv_has ls 4 [(0, .ref h0), (1, .long v)] := hl
  obtain ⟨H, eH⟩ : ∃ H : Heap, H = zs.heap := ⟨_, rfl⟩
  obtain ⟨locs, eL⟩ : ∃ l0 : List Loc, l0 = [] := ⟨_, rfl⟩
  rw [← eH, ← eL] at hw ⊢; clear eH eL
  obtain ⟨q0, hq0, hq1⟩ := hI.hole hml1 hmn
  obtain ⟨d0, hd1, hd2⟩ := hole_d (v := v) hq0 hq1
  refine lv_aload_n hx hb d_X_find_0 rfl (lv_at hl 0 rfl) ?_
  refine lv_lload_n hx hb d_X_find_1 rfl (lv_at hl 1 rfl) ?_
  refine xV_i (rest := []) (As := [.long v]) hx hb hml hown hts hK hA hw k_X_169 (c_X_slot zl G h0 qt e v0 v1 v2 v3 v4 v5 v6 v7 v8 (.ref qf) v10 v11 v12 v13 v14 v15 v16 v18 v19 v20 v21 v22 v23 v24 v25 v26 tb v hT hT0) [0, 1] rfl rfl (fun _ => Nat.le_of_ble_eq_true rfl) 0 rfl rfl rfl rfl hl.1 (Nat.le_of_ble_eq_true rfl) ⟨(by omega), (by omega)⟩ ⟨(by omega), (by omega)⟩ d_X_find_2 (fun r u H locs hp hw1 => ?_)
  subst hp
  refine W.cs (cells' := 0) (slots' := 0) rfl rfl ?_
  replace hw : WW G A zs ([oX h0 [v0, v1, v2, v3, v4, v5, v6, v7, v8, .ref qf, v10, v11, v12, v13, v14, v15, v16, .ref qt, v18, v19, v20, v21, v22, v23, v24, v25, v26], aI G qt (2 ^ e) tb, aJ G qf ln fm]) H locs := hw1
  refine r_eq (show nI (slN v e) = nI ((slN v e + 0) % 2 ^ e) from congrArg nI (by rw [Nat.add_zero, slN, Nat.mod_mod])) ?_
  refine lv_istore_n (lv' := [(3, .int (nI ((slN v e + 0) % 2 ^ e))), (0, .ref h0), (1, .long v)]) hx hb d_X_find_5 rfl hl (by decide) rfl (fun ls hl => ?_)
  have Lp6 : ∀ N_6 : Nat, ∀ (d : Nat), (d ≤ d0) → (FP e tb fm mn v d) → d0 - d < N_6 → ∀ (H : Heap) (locs : List Loc) (ls : Array Slot), lv_has ls 4 [(0, .ref h0), (1, .long v), (3, .int (nI ((slN v e + d) % 2 ^ e)))] → WW G A zs ([oX h0 [v0, v1, v2, v3, v4, v5, v6, v7, v8, .ref qf, v10, v11, v12, v13, v14, v15, v16, .ref qt, v18, v19, v20, v21, v22, v23, v24, v25, v26], aI G qt (2 ^ e) tb, aJ G qf ln fm]) H locs → W zp zl ze R zs zm args below meth zc H locs 0 0 Q (F0 zm 6 ls []) := by
    intro N_6
    induction N_6 with
    | zero => intros; omega
    | succ N_6 ih_6 =>
      intro d hd hP hN_6 H locs ls hl hw
      have hk9 : (slN v e + d) % 2 ^ e < 2 ^ e := Nat.mod_lt _ hT0
      refine lv_aload_n hx hb d_X_find_6 rfl (lv_at hl 0 rfl) ?_
      refine g_X_46 hx hb hts hown hK hw 0 rfl rfl d_X_find_7 ?_
      refine lv_iload_n hx hb d_X_find_10 rfl (lv_at hl 2 rfl) ?_
      refine r_iald hx hb hK hw 1 rfl (by omega) (by omega) d_X_find_11 ?_
      refine lv_iconst (v := -1) hx hb d_X_find_12 (by decide) ?_
      refine lv_icmp_eq (tgt := 47) hx hb d_X_find_13 (by decide) (fun c_13 => ?_) (fun c_13 => ?_)
      · skip
        refine lv_iload_n hx hb d_X_find_47 rfl (lv_at hl 2 rfl) ?_
        exact r_ret hQ (r_iret ((slN v e + d) % 2 ^ e) hx hb hr hlk hw (⟨rfl, hP.empty hI hmn (by omega) c_13⟩) (by omega) (by omega) d_X_find_48)
      · skip
        obtain ⟨j, hj, ej⟩ := (hI.1 _ hk9).resolve_left c_13
        refine lv_aload_n hx hb d_X_find_16 rfl (lv_at hl 0 rfl) ?_
        refine g_X_27 hx hb hts hown hK hw 0 rfl rfl d_X_find_17 ?_
        refine lv_aload_n hx hb d_X_find_20 rfl (lv_at hl 0 rfl) ?_
        refine g_X_46 hx hb hts hown hK hw 0 rfl rfl d_X_find_21 ?_
        refine lv_iload_n hx hb d_X_find_24 rfl (lv_at hl 2 rfl) ?_
        refine r_iald hx hb hK hw 1 rfl (by omega) (by omega) d_X_find_25 ?_
        refine r_eq (show tb ((slN v e + d) % 2 ^ e) = nI j from ej) ?_
        refine r_lald hx hb hK hw 2 rfl (by omega) (by omega) d_X_find_26 ?_
        refine lv_lload_n hx hb d_X_find_27 rfl (lv_at hl 1 rfl) ?_
        refine W.lcmp hx hb d_X_find_28 ?_
        refine lv_if_eq (tgt := 47) hx hb d_X_find_29 (by decide) (fun c_29 => ?_) (fun c_29 => ?_)
        · skip
          refine lv_iload_n hx hb d_X_find_47 rfl (lv_at hl 2 rfl) ?_
          exact r_ret hQ (r_iret ((slN v e + d) % 2 ^ e) hx hb hr hlk hw (⟨rfl, hk9, Or.inr ⟨j, hj, ej, (lg_cmp_eq _ _).mp c_29⟩⟩) (by omega) (by omega) d_X_find_48)
        · skip
          refine lv_iload_n hx hb d_X_find_32 rfl (lv_at hl 2 rfl) ?_
          refine lv_iconst (v := nI 1) hx hb d_X_find_33 rfl ?_
          refine r_iaddN hx hb d_X_find_34 ?_
          refine lv_aload_n hx hb d_X_find_35 rfl (lv_at hl 0 rfl) ?_
          refine g_X_46 hx hb hts hown hK hw 0 rfl rfl d_X_find_36 ?_
          refine r_alen hx hb hK hw 1 rfl d_X_find_39 ?_
          refine lv_iconst (v := nI 1) hx hb d_X_find_40 rfl ?_
          refine r_isubN hx hb (by omega) d_X_find_41 ?_
          refine r_iandN hx hb d_X_find_42 ?_
          refine r_eq (show nI ((((slN v e + d) % 2 ^ e) + 1) &&& ((2 ^ e) - 1)) = nI ((slN v e + (d + 1)) % 2 ^ e) from congrArg nI (by rw [pow_and, mod_succ _ 0, Nat.add_assoc])) ?_
          refine lv_istore_n (lv' := [(3, .int (nI ((slN v e + (d + 1)) % 2 ^ e))), (0, .ref h0), (1, .long v)]) hx hb d_X_find_43 rfl hl (by decide) rfl (fun ls hl => ?_)
          refine lv_goto (tgt := 6) hx hb d_X_find_44 (by decide) ?_
          exact ih_6 (d + 1) (by have : d ≠ d0 := fun z => c_13 (by rw [z]; exact hd2); omega) (hP.next hmn hj ej (fun z => c_29 ((lg_cmp_eq _ _).mpr z))) (by have : d ≠ d0 := fun z => c_13 (by rw [z]; exact hd2); omega) _ _ _ (lv_sub hl [1, 2, 0] rfl) hw
  exact Lp6 _ 0 (by omega) (fun d1 hd1 => absurd hd1 (Nat.not_lt_zero _)) (Nat.lt_succ_self _) _ _ _ (lv_sub hl [1, 2, 0] rfl) hw
