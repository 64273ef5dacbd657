set_option maxHeartbeats 4000000 in
set_option maxRecDepth 100000 in
theorem c_M_whole (zl : Launch) (G : GG) (am : Nat → Nat) (fa : Nat → Nat → Int32) (zv : Nat → Value) (th bw : Int32) (n room Sx Kx : Nat) (ps pm : List (List Nat)) (B : Nat → Bool) (rs : List Rl) (E : List Ent) (S : List Nat) (md ag ov : Nat) (k wt : Nat) (hE : EOK n room E) (hMR : MR E S fa) (hk : k < E.length) (hwt : wt < 6) : Ctr (S := Unit) vI zl y_M_whole b_M_whole 3 (Option.some Jvm.ClassFile.FieldType.int) 1 0 0 G [.ref (am 0), .int (nI k), .int (nI wt)] ([oM (am 0) [.int th, .int (nI n), .int (nI room), .int (nI Sx), .int (nI Kx), .int (nI rs.length), .ref (am 1), .ref (am 2), .ref (am 3), .ref (am 4), .ref (am 5), .ref (am 6), .ref (am 7), .ref (am 8), .int (nI pm.length), .int (nI E.length), .int (nI S.length), .int (nI md), .int (nI ag), .int (nI (deadN S S.length)), .int (anF ov), .int bw, .ref (am 9), .ref (am 10), .ref (am 11), .ref (am 12), .ref (am 13), .ref (am 14), .ref (am 15), .ref (am 16), .ref (am 17), .ref (am 18), zv 0, zv 1], aI G (am 1) 40 (fa 1), aI G (am 2) 40 (fa 2), aI G (am 3) 40 (fa 3), aI G (am 4) 40 (fa 4), aI G (am 5) 160 (fa 5), aI G (am 6) 160 (fa 6), aZ G (am 7) 64 (fa 7), aI G (am 8) 96 (fa 8), aI G (am 9) 98304 (fa 9), aI G (am 10) 8192 (fa 10), aI G (am 11) 8192 (fa 11), aI G (am 12) 8192 (fa 12), aI G (am 13) 8192 (fa 13), aI G (am 14) 8192 (fa 14), aI G (am 15) 8192 (fa 15), aI G (am 16) 12 (fa 16), aI G (am 17) 12 (fa 17), aI G (am 18) 12 (fa 18)]) (fun r _ => r = whA E S k wt) (fun _ => [oM (am 0) [.int (nI 0), .int (nI n), .int (nI room), .int (nI Sx), .int (nI Kx), .int (nI rs.length), .ref (am 1), .ref (am 2), .ref (am 3), .ref (am 4), .ref (am 5), .ref (am 6), .ref (am 7), .ref (am 8), .int (nI pm.length), .int (nI E.length), .int (nI S.length), .int (nI md), .int (nI ag), .int (nI (deadN S S.length)), .int (anF ov), .int bw, .ref (am 9), .ref (am 10), .ref (am 11), .ref (am 12), .ref (am 13), .ref (am 14), .ref (am 15), .ref (am 16), .ref (am 17), .ref (am 18), zv 0, zv 1], aI G (am 1) 40 (fa 1), aI G (am 2) 40 (fa 2), aI G (am 3) 40 (fa 3), aI G (am 4) 40 (fa 4), aI G (am 5) 160 (fa 5), aI G (am 6) 160 (fa 6), aZ G (am 7) 64 (fa 7), aI G (am 8) 96 (fa 8), aI G (am 9) 98304 (fa 9), aI G (am 10) 8192 (fa 10), aI G (am 11) 8192 (fa 11), aI G (am 12) 8192 (fa 12), aI G (am 13) 8192 (fa 13), aI G (am 14) 8192 (fa 14), aI G (am 15) 8192 (fa 15), aI G (am 16) 12 (fa 16), aI G (am 17) 12 (fa 17), aI G (am 18) 12 (fa 18)]) := by
  refine Ctr.start (by decide) (Nat.le_of_ble_eq_true rfl) ?_
  intro zp ze zs zm below meth zc A ls C0 hin hK hA hl hw
  obtain ⟨hx, hb, hr, hlk, hml, hown, hts⟩ := C0
  obtain ⟨R, hRR⟩ : ∃ R : Room, R = rmL 1 0 0 := ⟨_, rfl⟩
  have hRf : R.frames = 1 := by rw [hRR]
  have hRl : R.locals = 64 * 1 := by rw [hRR]
  have hRc : R.cells = 0 := by rw [hRR]
  have hRs : R.slots = 0 := by rw [hRR]
  rw [← hRR]; clear hRR
  generalize hQ : MQ below _ _ zs _ _ A = Q
  generalize hAr : List.toArray _ = args at hts hQ ⊢
  replace hl : lv_has ls 3 [(0, .ref (am 0)), (1, .int (nI k)), (2, .int (nI wt))] := hl
  obtain ⟨H, eH⟩ : ∃ H : Heap, H = zs.heap := ⟨_, rfl⟩
  obtain ⟨locs, eL⟩ : ∃ l0 : List Loc, l0 = [] := ⟨_, rfl⟩
  rw [← eH, ← eL] at hw ⊢; clear eH eL
  have hE8 := hE.2.2
  obtain ⟨hr0, hr1, hr2, hr3, hr4, hr5⟩ := hMR.1 k hk
  refine lv_aload_n hx hb d_M_whole_0 rfl (lv_at hl 0 rfl) ?_
  refine lv_iload_n hx hb d_M_whole_1 rfl (lv_at hl 1 rfl) ?_
  refine lv_aload_n hx hb d_M_whole_2 rfl (lv_at hl 0 rfl) ?_
  refine g_M_82 hx hb hts hown hK hw 0 rfl rfl d_M_whole_3 ?_
  refine xS_i (rest := [.ref (am 0)]) (As := [.int (nI k), .int (nI E.length)]) hx hb hml hown hts hK hA hw k_M_113 (c_M_isOf zl G (nI k) (nI E.length)) ([]) rfl rfl (fun _ => Nat.le_of_ble_eq_true rfl) rfl rfl hl.1 (Nat.le_of_ble_eq_true rfl) ⟨(by omega), (by omega)⟩ ⟨(by omega), (by omega)⟩ d_M_whole_6 (fun r u H locs hp hw1 => ?_)
  rw [if_pos ⟨nI_pos' (by omega), nI_lt (by omega) (by omega)⟩] at hp
  subst hp
  refine W.cs (cells' := 0) (slots' := 0) rfl rfl ?_
  replace hw : WW G A zs ([oM (am 0) [.int th, .int (nI n), .int (nI room), .int (nI Sx), .int (nI Kx), .int (nI rs.length), .ref (am 1), .ref (am 2), .ref (am 3), .ref (am 4), .ref (am 5), .ref (am 6), .ref (am 7), .ref (am 8), .int (nI pm.length), .int (nI E.length), .int (nI S.length), .int (nI md), .int (nI ag), .int (nI (deadN S S.length)), .int (anF ov), .int bw, .ref (am 9), .ref (am 10), .ref (am 11), .ref (am 12), .ref (am 13), .ref (am 14), .ref (am 15), .ref (am 16), .ref (am 17), .ref (am 18), zv 0, zv 1], aI G (am 1) 40 (fa 1), aI G (am 2) 40 (fa 2), aI G (am 3) 40 (fa 3), aI G (am 4) 40 (fa 4), aI G (am 5) 160 (fa 5), aI G (am 6) 160 (fa 6), aZ G (am 7) 64 (fa 7), aI G (am 8) 96 (fa 8), aI G (am 9) 98304 (fa 9), aI G (am 10) 8192 (fa 10), aI G (am 11) 8192 (fa 11), aI G (am 12) 8192 (fa 12), aI G (am 13) 8192 (fa 13), aI G (am 14) 8192 (fa 14), aI G (am 15) 8192 (fa 15), aI G (am 16) 12 (fa 16), aI G (am 17) 12 (fa 17), aI G (am 18) 12 (fa 18)]) H locs := hw1
  refine r_if_eq (tgt := 21) hx hb (by omega) d_M_whole_9 (by decide) (fun c_9 => ?_) (fun c_9 => ?_)
  · skip
    exact absurd c_9 (by decide)
  · skip
    refine lv_iload_n hx hb d_M_whole_12 rfl (lv_at hl 2 rfl) ?_
    refine lv_bipush (v := nI 6) hx hb d_M_whole_13 (by decide) ?_
    refine xS_i (rest := [.ref (am 0)]) (As := [.int (nI wt), .int (nI 6)]) hx hb hml hown hts hK hA hw k_M_113 (c_M_isOf zl G (nI wt) (nI 6)) ([]) rfl rfl (fun _ => Nat.le_of_ble_eq_true rfl) rfl rfl hl.1 (Nat.le_of_ble_eq_true rfl) ⟨(by omega), (by omega)⟩ ⟨(by omega), (by omega)⟩ d_M_whole_15 (fun r u H locs hp hw1 => ?_)
    rw [if_pos ⟨nI_pos' (by omega), nI_lt (by omega) (by omega)⟩] at hp
    subst hp
    refine W.cs (cells' := 0) (slots' := 0) rfl rfl ?_
    replace hw : WW G A zs ([oM (am 0) [.int th, .int (nI n), .int (nI room), .int (nI Sx), .int (nI Kx), .int (nI rs.length), .ref (am 1), .ref (am 2), .ref (am 3), .ref (am 4), .ref (am 5), .ref (am 6), .ref (am 7), .ref (am 8), .int (nI pm.length), .int (nI E.length), .int (nI S.length), .int (nI md), .int (nI ag), .int (nI (deadN S S.length)), .int (anF ov), .int bw, .ref (am 9), .ref (am 10), .ref (am 11), .ref (am 12), .ref (am 13), .ref (am 14), .ref (am 15), .ref (am 16), .ref (am 17), .ref (am 18), zv 0, zv 1], aI G (am 1) 40 (fa 1), aI G (am 2) 40 (fa 2), aI G (am 3) 40 (fa 3), aI G (am 4) 40 (fa 4), aI G (am 5) 160 (fa 5), aI G (am 6) 160 (fa 6), aZ G (am 7) 64 (fa 7), aI G (am 8) 96 (fa 8), aI G (am 9) 98304 (fa 9), aI G (am 10) 8192 (fa 10), aI G (am 11) 8192 (fa 11), aI G (am 12) 8192 (fa 12), aI G (am 13) 8192 (fa 13), aI G (am 14) 8192 (fa 14), aI G (am 15) 8192 (fa 15), aI G (am 16) 12 (fa 16), aI G (am 17) 12 (fa 17), aI G (am 18) 12 (fa 18)]) H locs := hw1
    refine r_if_ne (tgt := 25) hx hb (by omega) d_M_whole_18 (by decide) (fun c_18 => ?_) (fun c_18 => ?_)
    · skip
      refine lv_iconst (v := nI 0) hx hb d_M_whole_25 rfl ?_
      refine lv_iconst (v := nI 0) hx hb d_M_whole_26 rfl ?_
      refine xV_i (rest := []) (As := [.int (nI 0), .int (nI 0)]) hx hb hml hown hts hK hA hw k_M_103 (c_M_throwing zl G (am 0) th (nI 0) (nI 0) (.int (nI n)) (.int (nI room)) (.int (nI Sx)) (.int (nI Kx)) (.int (nI rs.length)) (.ref (am 1)) (.ref (am 2)) (.ref (am 3)) (.ref (am 4)) (.ref (am 5)) (.ref (am 6)) (.ref (am 7)) (.ref (am 8)) (.int (nI pm.length)) (.int (nI E.length)) (.int (nI S.length)) (.int (nI md)) (.int (nI ag)) (.int (nI (deadN S S.length))) (.int (anF ov)) (.int bw) (.ref (am 9)) (.ref (am 10)) (.ref (am 11)) (.ref (am 12)) (.ref (am 13)) (.ref (am 14)) (.ref (am 15)) (.ref (am 16)) (.ref (am 17)) (.ref (am 18)) (zv 0) (zv 1)) ([0]) rfl rfl (fun _ => Nat.le_of_ble_eq_true rfl) 0 rfl rfl rfl rfl hl.1 (Nat.le_of_ble_eq_true rfl) ⟨(by omega), (by omega)⟩ ⟨(by omega), (by omega)⟩ d_M_whole_27 (fun r u3 H locs hp hw1 => ?_)
      obtain ⟨rfl, rfl⟩ := hp
      refine W.cs (cells' := 0) (slots' := 0) rfl rfl ?_
      replace hw : WW G A zs ([oM (am 0) [.int (nI 0), .int (nI n), .int (nI room), .int (nI Sx), .int (nI Kx), .int (nI rs.length), .ref (am 1), .ref (am 2), .ref (am 3), .ref (am 4), .ref (am 5), .ref (am 6), .ref (am 7), .ref (am 8), .int (nI pm.length), .int (nI E.length), .int (nI S.length), .int (nI md), .int (nI ag), .int (nI (deadN S S.length)), .int (anF ov), .int bw, .ref (am 9), .ref (am 10), .ref (am 11), .ref (am 12), .ref (am 13), .ref (am 14), .ref (am 15), .ref (am 16), .ref (am 17), .ref (am 18), zv 0, zv 1], aI G (am 1) 40 (fa 1), aI G (am 2) 40 (fa 2), aI G (am 3) 40 (fa 3), aI G (am 4) 40 (fa 4), aI G (am 5) 160 (fa 5), aI G (am 6) 160 (fa 6), aZ G (am 7) 64 (fa 7), aI G (am 8) 96 (fa 8), aI G (am 9) 98304 (fa 9), aI G (am 10) 8192 (fa 10), aI G (am 11) 8192 (fa 11), aI G (am 12) 8192 (fa 12), aI G (am 13) 8192 (fa 13), aI G (am 14) 8192 (fa 14), aI G (am 15) 8192 (fa 15), aI G (am 16) 12 (fa 16), aI G (am 17) 12 (fa 17), aI G (am 18) 12 (fa 18)]) H locs := hw1
      refine r_if_eq (tgt := 35) hx hb (by omega) d_M_whole_30 (by decide) (fun c_30 => ?_) (fun c_30 => ?_)
      · skip
        refine lv_iload_n hx hb d_M_whole_35 rfl (lv_at hl 2 rfl) ?_
        by_cases sw_36_0 : nI wt = nI 0
        · skip
          rw [sw_36_0]
          refine lv_tableIn (tgt := 72) hx hb d_M_whole_36 (by decide) (by decide) rfl (by decide) ?_
          refine lv_aload_n hx hb d_M_whole_72 rfl (lv_at hl 0 rfl) ?_
          refine g_M_40 hx hb hts hown hK hw 0 rfl rfl d_M_whole_73 ?_
          refine lv_bipush (v := nI 12) hx hb d_M_whole_76 (by decide) ?_
          refine lv_iload_n hx hb d_M_whole_78 rfl (lv_at hl 1 rfl) ?_
          refine r_imulN hx hb d_M_whole_79 ?_
          refine lv_iconst (v := nI 4) hx hb d_M_whole_80 rfl ?_
          refine r_iaddN hx hb d_M_whole_81 ?_
          refine r_iald hx hb hK hw 9 rfl (by omega) (by omega) d_M_whole_82 ?_
          refine r_eq (show (fa 9) ((12 * k) + 4) = nI ((E.getD k eD).1.2.length) from hr0.n) ?_
          exact r_ret hQ (r_iret () hx hb hr hlk hw (by have hj9 := (nI_eq (by omega) (by omega)).mp sw_36_0; unfold whA; subst hj9; rfl) (by omega) (by omega) d_M_whole_83)
        by_cases sw_36_1 : nI wt = nI 1
        · skip
          rw [sw_36_1]
          refine lv_tableIn (tgt := 84) hx hb d_M_whole_36 (by decide) (by decide) rfl (by decide) ?_
          refine lv_aload_n hx hb d_M_whole_84 rfl (lv_at hl 0 rfl) ?_
          refine g_M_46 hx hb hts hown hK hw 0 rfl rfl d_M_whole_85 ?_
          refine lv_iload_n hx hb d_M_whole_88 rfl (lv_at hl 1 rfl) ?_
          refine r_iald hx hb hK hw 11 rfl (by omega) (by omega) d_M_whole_89 ?_
          refine r_eq (show (fa 11) k = nI ((E.getD k eD).2.2.2.1) from hr1) ?_
          exact r_ret hQ (r_iret () hx hb hr hlk hw (by have hj9 := (nI_eq (by omega) (by omega)).mp sw_36_1; unfold whA; subst hj9; rfl) (by omega) (by omega) d_M_whole_90)
        by_cases sw_36_2 : nI wt = nI 2
        · skip
          rw [sw_36_2]
          refine lv_tableIn (tgt := 91) hx hb d_M_whole_36 (by decide) (by decide) rfl (by decide) ?_
          refine lv_aload_n hx hb d_M_whole_91 rfl (lv_at hl 0 rfl) ?_
          refine g_M_49 hx hb hts hown hK hw 0 rfl rfl d_M_whole_92 ?_
          refine lv_iload_n hx hb d_M_whole_95 rfl (lv_at hl 1 rfl) ?_
          refine r_iald hx hb hK hw 12 rfl (by omega) (by omega) d_M_whole_96 ?_
          refine r_eq (show (fa 12) k = (E.getD k eD).2.1 from hr2) ?_
          exact r_ret hQ (r_iret () hx hb hr hlk hw (by have hj9 := (nI_eq (by omega) (by omega)).mp sw_36_2; unfold whA; subst hj9; rfl) (by omega) (by omega) d_M_whole_97)
        by_cases sw_36_3 : nI wt = nI 3
        · skip
          rw [sw_36_3]
          refine lv_tableIn (tgt := 98) hx hb d_M_whole_36 (by decide) (by decide) rfl (by decide) ?_
          refine lv_aload_n hx hb d_M_whole_98 rfl (lv_at hl 0 rfl) ?_
          refine g_M_52 hx hb hts hown hK hw 0 rfl rfl d_M_whole_99 ?_
          refine lv_iload_n hx hb d_M_whole_102 rfl (lv_at hl 1 rfl) ?_
          refine r_iald hx hb hK hw 13 rfl (by omega) (by omega) d_M_whole_103 ?_
          refine r_eq (show (fa 13) k = (E.getD k eD).2.2.1 from hr3) ?_
          exact r_ret hQ (r_iret () hx hb hr hlk hw (by have hj9 := (nI_eq (by omega) (by omega)).mp sw_36_3; unfold whA; subst hj9; rfl) (by omega) (by omega) d_M_whole_104)
        by_cases sw_36_4 : nI wt = nI 4
        · skip
          rw [sw_36_4]
          refine lv_tableIn (tgt := 105) hx hb d_M_whole_36 (by decide) (by decide) rfl (by decide) ?_
          refine lv_aload_n hx hb d_M_whole_105 rfl (lv_at hl 0 rfl) ?_
          refine g_M_55 hx hb hts hown hK hw 0 rfl rfl d_M_whole_106 ?_
          refine lv_iload_n hx hb d_M_whole_109 rfl (lv_at hl 1 rfl) ?_
          refine r_iald hx hb hK hw 14 rfl (by omega) (by omega) d_M_whole_110 ?_
          refine r_eq (show (fa 14) k = (if k < S.length then nI (S.getD k 0) else -1) from hr5) ?_
          exact r_ret hQ (r_iret () hx hb hr hlk hw (by have hj9 := (nI_eq (by omega) (by omega)).mp sw_36_4; unfold whA; subst hj9; rfl) (by omega) (by omega) d_M_whole_111)
        refine lv_tableOut (tgt := 112) hx hb d_M_whole_36 (sw_out5 (fun j hj => by match j, hj with | 0, _ => exact sw_36_0 | 1, _ => exact sw_36_1 | 2, _ => exact sw_36_2 | 3, _ => exact sw_36_3 | 4, _ => exact sw_36_4)) (by decide) ?_
        refine lv_aload_n hx hb d_M_whole_112 rfl (lv_at hl 0 rfl) ?_
        refine g_M_58 hx hb hts hown hK hw 0 rfl rfl d_M_whole_113 ?_
        refine lv_iload_n hx hb d_M_whole_116 rfl (lv_at hl 1 rfl) ?_
        refine r_iald hx hb hK hw 15 rfl (by omega) (by omega) d_M_whole_117 ?_
        refine r_eq (show (fa 15) k = nI ((E.getD k eD).2.2.2.2) from hr4) ?_
        exact r_ret hQ (r_iret () hx hb hr hlk hw (wh_5 sw_36_0 sw_36_1 sw_36_2 sw_36_3 sw_36_4 hwt) (by omega) (by omega) d_M_whole_118)
      · skip
        exact absurd c_30 (by decide)
    · skip
      exact absurd c_18 (by decide)
set_option maxHeartbeats 4000000 in
set_option maxRecDepth 100000 in
theorem c_M_wholeX (zl : Launch) (G : GG) (am : Nat → Nat) (fa : Nat → Nat → Int32) (zv : Nat → Value) (th bw : Int32) (n room Sx Kx : Nat) (ps pm : List (List Nat)) (B : Nat → Bool) (rs : List Rl) (E : List Ent) (S : List Nat) (md ag ov : Nat) (x y : Int32) (hbad : ¬ ((0 ≤ x ∧ x < nI E.length) ∧ (0 ≤ y ∧ y < nI 6))) : Ctr (S := Unit) vI zl y_M_whole b_M_whole 3 (Option.some Jvm.ClassFile.FieldType.int) 1 0 0 G [.ref (am 0), .int x, .int y] ([oM (am 0) [.int th, .int (nI n), .int (nI room), .int (nI Sx), .int (nI Kx), .int (nI rs.length), .ref (am 1), .ref (am 2), .ref (am 3), .ref (am 4), .ref (am 5), .ref (am 6), .ref (am 7), .ref (am 8), .int (nI pm.length), .int (nI E.length), .int (nI S.length), .int (nI md), .int (nI ag), .int (nI (deadN S S.length)), .int (anF ov), .int bw, .ref (am 9), .ref (am 10), .ref (am 11), .ref (am 12), .ref (am 13), .ref (am 14), .ref (am 15), .ref (am 16), .ref (am 17), .ref (am 18), zv 0, zv 1], aI G (am 1) 40 (fa 1), aI G (am 2) 40 (fa 2), aI G (am 3) 40 (fa 3), aI G (am 4) 40 (fa 4), aI G (am 5) 160 (fa 5), aI G (am 6) 160 (fa 6), aZ G (am 7) 64 (fa 7), aI G (am 8) 96 (fa 8), aI G (am 9) 98304 (fa 9), aI G (am 10) 8192 (fa 10), aI G (am 11) 8192 (fa 11), aI G (am 12) 8192 (fa 12), aI G (am 13) 8192 (fa 13), aI G (am 14) 8192 (fa 14), aI G (am 15) 8192 (fa 15), aI G (am 16) 12 (fa 16), aI G (am 17) 12 (fa 17), aI G (am 18) 12 (fa 18)]) (fun _ _ => True) (fun _ => [oM (am 0) [.int (nI 1), .int (nI n), .int (nI room), .int (nI Sx), .int (nI Kx), .int (nI rs.length), .ref (am 1), .ref (am 2), .ref (am 3), .ref (am 4), .ref (am 5), .ref (am 6), .ref (am 7), .ref (am 8), .int (nI pm.length), .int (nI E.length), .int (nI S.length), .int (nI md), .int (nI ag), .int (nI (deadN S S.length)), .int (anF ov), .int bw, .ref (am 9), .ref (am 10), .ref (am 11), .ref (am 12), .ref (am 13), .ref (am 14), .ref (am 15), .ref (am 16), .ref (am 17), .ref (am 18), zv 0, zv 1], aI G (am 1) 40 (fa 1), aI G (am 2) 40 (fa 2), aI G (am 3) 40 (fa 3), aI G (am 4) 40 (fa 4), aI G (am 5) 160 (fa 5), aI G (am 6) 160 (fa 6), aZ G (am 7) 64 (fa 7), aI G (am 8) 96 (fa 8), aI G (am 9) 98304 (fa 9), aI G (am 10) 8192 (fa 10), aI G (am 11) 8192 (fa 11), aI G (am 12) 8192 (fa 12), aI G (am 13) 8192 (fa 13), aI G (am 14) 8192 (fa 14), aI G (am 15) 8192 (fa 15), aI G (am 16) 12 (fa 16), aI G (am 17) 12 (fa 17), aI G (am 18) 12 (fa 18)]) := by
  refine Ctr.start (by decide) (Nat.le_of_ble_eq_true rfl) ?_
  intro zp ze zs zm below meth zc A ls C0 hin hK hA hl hw
  obtain ⟨hx, hb, hr, hlk, hml, hown, hts⟩ := C0
  obtain ⟨R, hRR⟩ : ∃ R : Room, R = rmL 1 0 0 := ⟨_, rfl⟩
  have hRf : R.frames = 1 := by rw [hRR]
  have hRl : R.locals = 64 * 1 := by rw [hRR]
  have hRc : R.cells = 0 := by rw [hRR]
  have hRs : R.slots = 0 := by rw [hRR]
  rw [← hRR]; clear hRR
  generalize hQ : MQ below _ _ zs _ _ A = Q
  generalize hAr : List.toArray _ = args at hts hQ ⊢
  replace hl : lv_has ls 3 [(0, .ref (am 0)), (1, .int x), (2, .int y)] := hl
  obtain ⟨H, eH⟩ : ∃ H : Heap, H = zs.heap := ⟨_, rfl⟩
  obtain ⟨locs, eL⟩ : ∃ l0 : List Loc, l0 = [] := ⟨_, rfl⟩
  rw [← eH, ← eL] at hw ⊢; clear eH eL
  refine lv_aload_n hx hb d_M_whole_0 rfl (lv_at hl 0 rfl) ?_
  refine lv_iload_n hx hb d_M_whole_1 rfl (lv_at hl 1 rfl) ?_
  refine lv_aload_n hx hb d_M_whole_2 rfl (lv_at hl 0 rfl) ?_
  refine g_M_82 hx hb hts hown hK hw 0 rfl rfl d_M_whole_3 ?_
  by_cases ho_6 : 0 ≤ x ∧ x < nI E.length
  · skip
    refine xS_i (rest := [.ref (am 0)]) (As := [.int x, .int (nI E.length)]) hx hb hml hown hts hK hA hw k_M_113 (c_M_isOf zl G x (nI E.length)) ([]) rfl rfl (fun _ => Nat.le_of_ble_eq_true rfl) rfl rfl hl.1 (Nat.le_of_ble_eq_true rfl) ⟨(by omega), (by omega)⟩ ⟨(by omega), (by omega)⟩ d_M_whole_6 (fun r u H locs hp hw1 => ?_)
    rw [if_pos ho_6] at hp
    subst hp
    refine W.cs (cells' := 0) (slots' := 0) rfl rfl ?_
    replace hw : WW G A zs ([oM (am 0) [.int th, .int (nI n), .int (nI room), .int (nI Sx), .int (nI Kx), .int (nI rs.length), .ref (am 1), .ref (am 2), .ref (am 3), .ref (am 4), .ref (am 5), .ref (am 6), .ref (am 7), .ref (am 8), .int (nI pm.length), .int (nI E.length), .int (nI S.length), .int (nI md), .int (nI ag), .int (nI (deadN S S.length)), .int (anF ov), .int bw, .ref (am 9), .ref (am 10), .ref (am 11), .ref (am 12), .ref (am 13), .ref (am 14), .ref (am 15), .ref (am 16), .ref (am 17), .ref (am 18), zv 0, zv 1], aI G (am 1) 40 (fa 1), aI G (am 2) 40 (fa 2), aI G (am 3) 40 (fa 3), aI G (am 4) 40 (fa 4), aI G (am 5) 160 (fa 5), aI G (am 6) 160 (fa 6), aZ G (am 7) 64 (fa 7), aI G (am 8) 96 (fa 8), aI G (am 9) 98304 (fa 9), aI G (am 10) 8192 (fa 10), aI G (am 11) 8192 (fa 11), aI G (am 12) 8192 (fa 12), aI G (am 13) 8192 (fa 13), aI G (am 14) 8192 (fa 14), aI G (am 15) 8192 (fa 15), aI G (am 16) 12 (fa 16), aI G (am 17) 12 (fa 17), aI G (am 18) 12 (fa 18)]) H locs := hw1
    refine r_if_eq (tgt := 21) hx hb (by omega) d_M_whole_9 (by decide) (fun c_9 => ?_) (fun c_9 => ?_)
    · skip
      exact absurd c_9 (by decide)
    · skip
      refine lv_iload_n hx hb d_M_whole_12 rfl (lv_at hl 2 rfl) ?_
      refine lv_bipush (v := nI 6) hx hb d_M_whole_13 (by decide) ?_
      by_cases ho_15 : 0 ≤ y ∧ y < nI 6
      · skip
        refine xS_i (rest := [.ref (am 0)]) (As := [.int y, .int (nI 6)]) hx hb hml hown hts hK hA hw k_M_113 (c_M_isOf zl G y (nI 6)) ([]) rfl rfl (fun _ => Nat.le_of_ble_eq_true rfl) rfl rfl hl.1 (Nat.le_of_ble_eq_true rfl) ⟨(by omega), (by omega)⟩ ⟨(by omega), (by omega)⟩ d_M_whole_15 (fun r u H locs hp hw1 => ?_)
        rw [if_pos ho_15] at hp
        subst hp
        refine W.cs (cells' := 0) (slots' := 0) rfl rfl ?_
        replace hw : WW G A zs ([oM (am 0) [.int th, .int (nI n), .int (nI room), .int (nI Sx), .int (nI Kx), .int (nI rs.length), .ref (am 1), .ref (am 2), .ref (am 3), .ref (am 4), .ref (am 5), .ref (am 6), .ref (am 7), .ref (am 8), .int (nI pm.length), .int (nI E.length), .int (nI S.length), .int (nI md), .int (nI ag), .int (nI (deadN S S.length)), .int (anF ov), .int bw, .ref (am 9), .ref (am 10), .ref (am 11), .ref (am 12), .ref (am 13), .ref (am 14), .ref (am 15), .ref (am 16), .ref (am 17), .ref (am 18), zv 0, zv 1], aI G (am 1) 40 (fa 1), aI G (am 2) 40 (fa 2), aI G (am 3) 40 (fa 3), aI G (am 4) 40 (fa 4), aI G (am 5) 160 (fa 5), aI G (am 6) 160 (fa 6), aZ G (am 7) 64 (fa 7), aI G (am 8) 96 (fa 8), aI G (am 9) 98304 (fa 9), aI G (am 10) 8192 (fa 10), aI G (am 11) 8192 (fa 11), aI G (am 12) 8192 (fa 12), aI G (am 13) 8192 (fa 13), aI G (am 14) 8192 (fa 14), aI G (am 15) 8192 (fa 15), aI G (am 16) 12 (fa 16), aI G (am 17) 12 (fa 17), aI G (am 18) 12 (fa 18)]) H locs := hw1
        refine r_if_ne (tgt := 25) hx hb (by omega) d_M_whole_18 (by decide) (fun c_18 => ?_) (fun c_18 => ?_)
        · skip
          exact absurd ⟨ho_6, ho_15⟩ hbad
        · skip
          exact absurd c_18 (by decide)
      · skip
        refine xS_i (rest := [.ref (am 0)]) (As := [.int y, .int (nI 6)]) hx hb hml hown hts hK hA hw k_M_113 (c_M_isOf zl G y (nI 6)) ([]) rfl rfl (fun _ => Nat.le_of_ble_eq_true rfl) rfl rfl hl.1 (Nat.le_of_ble_eq_true rfl) ⟨(by omega), (by omega)⟩ ⟨(by omega), (by omega)⟩ d_M_whole_15 (fun r u H locs hp hw1 => ?_)
        rw [if_neg ho_15] at hp
        subst hp
        refine W.cs (cells' := 0) (slots' := 0) rfl rfl ?_
        replace hw : WW G A zs ([oM (am 0) [.int th, .int (nI n), .int (nI room), .int (nI Sx), .int (nI Kx), .int (nI rs.length), .ref (am 1), .ref (am 2), .ref (am 3), .ref (am 4), .ref (am 5), .ref (am 6), .ref (am 7), .ref (am 8), .int (nI pm.length), .int (nI E.length), .int (nI S.length), .int (nI md), .int (nI ag), .int (nI (deadN S S.length)), .int (anF ov), .int bw, .ref (am 9), .ref (am 10), .ref (am 11), .ref (am 12), .ref (am 13), .ref (am 14), .ref (am 15), .ref (am 16), .ref (am 17), .ref (am 18), zv 0, zv 1], aI G (am 1) 40 (fa 1), aI G (am 2) 40 (fa 2), aI G (am 3) 40 (fa 3), aI G (am 4) 40 (fa 4), aI G (am 5) 160 (fa 5), aI G (am 6) 160 (fa 6), aZ G (am 7) 64 (fa 7), aI G (am 8) 96 (fa 8), aI G (am 9) 98304 (fa 9), aI G (am 10) 8192 (fa 10), aI G (am 11) 8192 (fa 11), aI G (am 12) 8192 (fa 12), aI G (am 13) 8192 (fa 13), aI G (am 14) 8192 (fa 14), aI G (am 15) 8192 (fa 15), aI G (am 16) 12 (fa 16), aI G (am 17) 12 (fa 17), aI G (am 18) 12 (fa 18)]) H locs := hw1
        refine r_if_ne (tgt := 25) hx hb (by omega) d_M_whole_18 (by decide) (fun c_18 => ?_) (fun c_18 => ?_)
        · skip
          exact absurd c_18 (by decide)
        · skip
          refine lv_iconst (v := nI 1) hx hb d_M_whole_21 rfl ?_
          refine lv_goto (tgt := 26) hx hb d_M_whole_22 (by decide) ?_
          refine lv_iconst (v := nI 0) hx hb d_M_whole_26 rfl ?_
          refine xV_i (rest := []) (As := [.int (nI 1), .int (nI 0)]) hx hb hml hown hts hK hA hw k_M_103 (c_M_throwing zl G (am 0) th (nI 1) (nI 0) (.int (nI n)) (.int (nI room)) (.int (nI Sx)) (.int (nI Kx)) (.int (nI rs.length)) (.ref (am 1)) (.ref (am 2)) (.ref (am 3)) (.ref (am 4)) (.ref (am 5)) (.ref (am 6)) (.ref (am 7)) (.ref (am 8)) (.int (nI pm.length)) (.int (nI E.length)) (.int (nI S.length)) (.int (nI md)) (.int (nI ag)) (.int (nI (deadN S S.length))) (.int (anF ov)) (.int bw) (.ref (am 9)) (.ref (am 10)) (.ref (am 11)) (.ref (am 12)) (.ref (am 13)) (.ref (am 14)) (.ref (am 15)) (.ref (am 16)) (.ref (am 17)) (.ref (am 18)) (zv 0) (zv 1)) ([0]) rfl rfl (fun _ => Nat.le_of_ble_eq_true rfl) 0 rfl rfl rfl rfl hl.1 (Nat.le_of_ble_eq_true rfl) ⟨(by omega), (by omega)⟩ ⟨(by omega), (by omega)⟩ d_M_whole_27 (fun r u3 H locs hp hw1 => ?_)
          obtain ⟨rfl, rfl⟩ := hp
          refine W.cs (cells' := 0) (slots' := 0) rfl rfl ?_
          replace hw : WW G A zs ([oM (am 0) [.int (nI 1), .int (nI n), .int (nI room), .int (nI Sx), .int (nI Kx), .int (nI rs.length), .ref (am 1), .ref (am 2), .ref (am 3), .ref (am 4), .ref (am 5), .ref (am 6), .ref (am 7), .ref (am 8), .int (nI pm.length), .int (nI E.length), .int (nI S.length), .int (nI md), .int (nI ag), .int (nI (deadN S S.length)), .int (anF ov), .int bw, .ref (am 9), .ref (am 10), .ref (am 11), .ref (am 12), .ref (am 13), .ref (am 14), .ref (am 15), .ref (am 16), .ref (am 17), .ref (am 18), zv 0, zv 1], aI G (am 1) 40 (fa 1), aI G (am 2) 40 (fa 2), aI G (am 3) 40 (fa 3), aI G (am 4) 40 (fa 4), aI G (am 5) 160 (fa 5), aI G (am 6) 160 (fa 6), aZ G (am 7) 64 (fa 7), aI G (am 8) 96 (fa 8), aI G (am 9) 98304 (fa 9), aI G (am 10) 8192 (fa 10), aI G (am 11) 8192 (fa 11), aI G (am 12) 8192 (fa 12), aI G (am 13) 8192 (fa 13), aI G (am 14) 8192 (fa 14), aI G (am 15) 8192 (fa 15), aI G (am 16) 12 (fa 16), aI G (am 17) 12 (fa 17), aI G (am 18) 12 (fa 18)]) H locs := hw1
          refine r_if_eq (tgt := 35) hx hb (by omega) d_M_whole_30 (by decide) (fun c_30 => ?_) (fun c_30 => ?_)
          · skip
            exact absurd c_30 (by decide)
          · skip
            refine lv_iconst (v := nI 0) hx hb d_M_whole_33 rfl ?_
            exact r_ret hQ (r_iret () hx hb hr hlk hw trivial (by omega) (by omega) d_M_whole_34)
  · skip
    refine xS_i (rest := [.ref (am 0)]) (As := [.int x, .int (nI E.length)]) hx hb hml hown hts hK hA hw k_M_113 (c_M_isOf zl G x (nI E.length)) ([]) rfl rfl (fun _ => Nat.le_of_ble_eq_true rfl) rfl rfl hl.1 (Nat.le_of_ble_eq_true rfl) ⟨(by omega), (by omega)⟩ ⟨(by omega), (by omega)⟩ d_M_whole_6 (fun r u H locs hp hw1 => ?_)
    rw [if_neg ho_6] at hp
    subst hp
    refine W.cs (cells' := 0) (slots' := 0) rfl rfl ?_
    replace hw : WW G A zs ([oM (am 0) [.int th, .int (nI n), .int (nI room), .int (nI Sx), .int (nI Kx), .int (nI rs.length), .ref (am 1), .ref (am 2), .ref (am 3), .ref (am 4), .ref (am 5), .ref (am 6), .ref (am 7), .ref (am 8), .int (nI pm.length), .int (nI E.length), .int (nI S.length), .int (nI md), .int (nI ag), .int (nI (deadN S S.length)), .int (anF ov), .int bw, .ref (am 9), .ref (am 10), .ref (am 11), .ref (am 12), .ref (am 13), .ref (am 14), .ref (am 15), .ref (am 16), .ref (am 17), .ref (am 18), zv 0, zv 1], aI G (am 1) 40 (fa 1), aI G (am 2) 40 (fa 2), aI G (am 3) 40 (fa 3), aI G (am 4) 40 (fa 4), aI G (am 5) 160 (fa 5), aI G (am 6) 160 (fa 6), aZ G (am 7) 64 (fa 7), aI G (am 8) 96 (fa 8), aI G (am 9) 98304 (fa 9), aI G (am 10) 8192 (fa 10), aI G (am 11) 8192 (fa 11), aI G (am 12) 8192 (fa 12), aI G (am 13) 8192 (fa 13), aI G (am 14) 8192 (fa 14), aI G (am 15) 8192 (fa 15), aI G (am 16) 12 (fa 16), aI G (am 17) 12 (fa 17), aI G (am 18) 12 (fa 18)]) H locs := hw1
    refine r_if_eq (tgt := 21) hx hb (by omega) d_M_whole_9 (by decide) (fun c_9 => ?_) (fun c_9 => ?_)
    · skip
      refine lv_iconst (v := nI 1) hx hb d_M_whole_21 rfl ?_
      refine lv_goto (tgt := 26) hx hb d_M_whole_22 (by decide) ?_
      refine lv_iconst (v := nI 0) hx hb d_M_whole_26 rfl ?_
      refine xV_i (rest := []) (As := [.int (nI 1), .int (nI 0)]) hx hb hml hown hts hK hA hw k_M_103 (c_M_throwing zl G (am 0) th (nI 1) (nI 0) (.int (nI n)) (.int (nI room)) (.int (nI Sx)) (.int (nI Kx)) (.int (nI rs.length)) (.ref (am 1)) (.ref (am 2)) (.ref (am 3)) (.ref (am 4)) (.ref (am 5)) (.ref (am 6)) (.ref (am 7)) (.ref (am 8)) (.int (nI pm.length)) (.int (nI E.length)) (.int (nI S.length)) (.int (nI md)) (.int (nI ag)) (.int (nI (deadN S S.length))) (.int (anF ov)) (.int bw) (.ref (am 9)) (.ref (am 10)) (.ref (am 11)) (.ref (am 12)) (.ref (am 13)) (.ref (am 14)) (.ref (am 15)) (.ref (am 16)) (.ref (am 17)) (.ref (am 18)) (zv 0) (zv 1)) ([0]) rfl rfl (fun _ => Nat.le_of_ble_eq_true rfl) 0 rfl rfl rfl rfl hl.1 (Nat.le_of_ble_eq_true rfl) ⟨(by omega), (by omega)⟩ ⟨(by omega), (by omega)⟩ d_M_whole_27 (fun r u3 H locs hp hw1 => ?_)
      obtain ⟨rfl, rfl⟩ := hp
      refine W.cs (cells' := 0) (slots' := 0) rfl rfl ?_
      replace hw : WW G A zs ([oM (am 0) [.int (nI 1), .int (nI n), .int (nI room), .int (nI Sx), .int (nI Kx), .int (nI rs.length), .ref (am 1), .ref (am 2), .ref (am 3), .ref (am 4), .ref (am 5), .ref (am 6), .ref (am 7), .ref (am 8), .int (nI pm.length), .int (nI E.length), .int (nI S.length), .int (nI md), .int (nI ag), .int (nI (deadN S S.length)), .int (anF ov), .int bw, .ref (am 9), .ref (am 10), .ref (am 11), .ref (am 12), .ref (am 13), .ref (am 14), .ref (am 15), .ref (am 16), .ref (am 17), .ref (am 18), zv 0, zv 1], aI G (am 1) 40 (fa 1), aI G (am 2) 40 (fa 2), aI G (am 3) 40 (fa 3), aI G (am 4) 40 (fa 4), aI G (am 5) 160 (fa 5), aI G (am 6) 160 (fa 6), aZ G (am 7) 64 (fa 7), aI G (am 8) 96 (fa 8), aI G (am 9) 98304 (fa 9), aI G (am 10) 8192 (fa 10), aI G (am 11) 8192 (fa 11), aI G (am 12) 8192 (fa 12), aI G (am 13) 8192 (fa 13), aI G (am 14) 8192 (fa 14), aI G (am 15) 8192 (fa 15), aI G (am 16) 12 (fa 16), aI G (am 17) 12 (fa 17), aI G (am 18) 12 (fa 18)]) H locs := hw1
      refine r_if_eq (tgt := 35) hx hb (by omega) d_M_whole_30 (by decide) (fun c_30 => ?_) (fun c_30 => ?_)
      · skip
        exact absurd c_30 (by decide)
      · skip
        refine lv_iconst (v := nI 0) hx hb d_M_whole_33 rfl ?_
        exact r_ret hQ (r_iret () hx hb hr hlk hw trivial (by omega) (by omega) d_M_whole_34)
    · skip
      exact absurd c_9 (by decide)
set_option maxHeartbeats 4000000 in
set_option maxRecDepth 100000 in
theorem c_M_way (zl : Launch) (G : GG) (am : Nat → Nat) (fa : Nat → Nat → Int32) (zv : Nat → Value) (th bw : Int32) (n room Sx Kx : Nat) (ps pm : List (List Nat)) (B : Nat → Bool) (rs : List Rl) (E : List Ent) (S : List Nat) (md ag ov : Nat) (hE : EOK n room E) (hMR : MR E S fa) (ho2 : ov ≤ 2) (hE1 : ov = 1 → 0 < E.length) (hbw : ov = 1 → bw = nI (E.length - 1)) : Ctr (S := Unit) vI zl y_M_way b_M_way 1 (Option.some Jvm.ClassFile.FieldType.int) 0 0 0 G [.ref (am 0)] ([oM (am 0) [.int th, .int (nI n), .int (nI room), .int (nI Sx), .int (nI Kx), .int (nI rs.length), .ref (am 1), .ref (am 2), .ref (am 3), .ref (am 4), .ref (am 5), .ref (am 6), .ref (am 7), .ref (am 8), .int (nI pm.length), .int (nI E.length), .int (nI S.length), .int (nI md), .int (nI ag), .int (nI (deadN S S.length)), .int (anF ov), .int bw, .ref (am 9), .ref (am 10), .ref (am 11), .ref (am 12), .ref (am 13), .ref (am 14), .ref (am 15), .ref (am 16), .ref (am 17), .ref (am 18), zv 0, zv 1], aI G (am 1) 40 (fa 1), aI G (am 2) 40 (fa 2), aI G (am 3) 40 (fa 3), aI G (am 4) 40 (fa 4), aI G (am 5) 160 (fa 5), aI G (am 6) 160 (fa 6), aZ G (am 7) 64 (fa 7), aI G (am 8) 96 (fa 8), aI G (am 9) 98304 (fa 9), aI G (am 10) 8192 (fa 10), aI G (am 11) 8192 (fa 11), aI G (am 12) 8192 (fa 12), aI G (am 13) 8192 (fa 13), aI G (am 14) 8192 (fa 14), aI G (am 15) 8192 (fa 15), aI G (am 16) 12 (fa 16), aI G (am 17) 12 (fa 17), aI G (am 18) 12 (fa 18)]) (fun r _ => r = wayR E ov) (fun _ => [oM (am 0) [.int (nI 0), .int (nI n), .int (nI room), .int (nI Sx), .int (nI Kx), .int (nI rs.length), .ref (am 1), .ref (am 2), .ref (am 3), .ref (am 4), .ref (am 5), .ref (am 6), .ref (am 7), .ref (am 8), .int (nI pm.length), .int (nI E.length), .int (nI S.length), .int (nI md), .int (nI ag), .int (nI (deadN S S.length)), .int (anF ov), .int bw, .ref (am 9), .ref (am 10), .ref (am 11), .ref (am 12), .ref (am 13), .ref (am 14), .ref (am 15), .ref (am 16), .ref (am 17), .ref (am 18), zv 0, zv 1], aI G (am 1) 40 (fa 1), aI G (am 2) 40 (fa 2), aI G (am 3) 40 (fa 3), aI G (am 4) 40 (fa 4), aI G (am 5) 160 (fa 5), aI G (am 6) 160 (fa 6), aZ G (am 7) 64 (fa 7), aI G (am 8) 96 (fa 8), aI G (am 9) 98304 (fa 9), aI G (am 10) 8192 (fa 10), aI G (am 11) 8192 (fa 11), aI G (am 12) 8192 (fa 12), aI G (am 13) 8192 (fa 13), aI G (am 14) 8192 (fa 14), aI G (am 15) 8192 (fa 15), aI G (am 16) 12 (fa 16), aI G (am 17) 12 (fa 17), aI G (am 18) 12 (fa 18)]) := by
  refine Ctr.start (by decide) (Nat.le_of_ble_eq_true rfl) ?_
  intro zp ze zs zm below meth zc A ls C0 hin hK hA hl hw
  obtain ⟨hx, hb, hr, hlk, hml, hown, hts⟩ := C0
  obtain ⟨R, hRR⟩ : ∃ R : Room, R = rmL 0 0 0 := ⟨_, rfl⟩
  have hRf : R.frames = 0 := by rw [hRR]
  have hRl : R.locals = 64 * 0 := by rw [hRR]
  have hRc : R.cells = 0 := by rw [hRR]
  have hRs : R.slots = 0 := by rw [hRR]
  rw [← hRR]; clear hRR
  generalize hQ : MQ below _ _ zs _ _ A = Q
  generalize hAr : List.toArray _ = args at hts hQ ⊢
  replace hl : lv_has ls 1 [(0, .ref (am 0))] := hl
  obtain ⟨H, eH⟩ : ∃ H : Heap, H = zs.heap := ⟨_, rfl⟩
  obtain ⟨locs, eL⟩ : ∃ l0 : List Loc, l0 = [] := ⟨_, rfl⟩
  rw [← eH, ← eL] at hw ⊢; clear eH eL
  have hE8 := hE.2.2
  refine lv_aload_n hx hb d_M_way_0 rfl (lv_at hl 0 rfl) ?_
  refine lv_iconst (v := nI 0) hx hb d_M_way_1 rfl ?_
  refine p_M_79 hx hb hts hown hK hw 0 rfl (Nat.le_of_ble_eq_true rfl) d_M_way_2 (fun H locs hw1 => ?_)
  replace hw : WW G A zs ([oM (am 0) [.int (nI 0), .int (nI n), .int (nI room), .int (nI Sx), .int (nI Kx), .int (nI rs.length), .ref (am 1), .ref (am 2), .ref (am 3), .ref (am 4), .ref (am 5), .ref (am 6), .ref (am 7), .ref (am 8), .int (nI pm.length), .int (nI E.length), .int (nI S.length), .int (nI md), .int (nI ag), .int (nI (deadN S S.length)), .int (anF ov), .int bw, .ref (am 9), .ref (am 10), .ref (am 11), .ref (am 12), .ref (am 13), .ref (am 14), .ref (am 15), .ref (am 16), .ref (am 17), .ref (am 18), zv 0, zv 1], aI G (am 1) 40 (fa 1), aI G (am 2) 40 (fa 2), aI G (am 3) 40 (fa 3), aI G (am 4) 40 (fa 4), aI G (am 5) 160 (fa 5), aI G (am 6) 160 (fa 6), aZ G (am 7) 64 (fa 7), aI G (am 8) 96 (fa 8), aI G (am 9) 98304 (fa 9), aI G (am 10) 8192 (fa 10), aI G (am 11) 8192 (fa 11), aI G (am 12) 8192 (fa 12), aI G (am 13) 8192 (fa 13), aI G (am 14) 8192 (fa 14), aI G (am 15) 8192 (fa 15), aI G (am 16) 12 (fa 16), aI G (am 17) 12 (fa 17), aI G (am 18) 12 (fa 18)]) H locs := hw1
  refine lv_aload_n hx hb d_M_way_5 rfl (lv_at hl 0 rfl) ?_
  refine g_M_97 hx hb hts hown hK hw 0 rfl rfl d_M_way_6 ?_
  refine lv_bipush (v := -2) hx hb d_M_way_9 (by decide) ?_
  refine lv_icmp_ne (tgt := 26) hx hb d_M_way_11 (by decide) (fun c_11 => ?_) (fun c_11 => ?_)
  · skip
    have ho1 := an_n1 c_11
    refine lv_iconst (v := -1) hx hb d_M_way_26 (by decide) ?_
    exact r_ret hQ (r_iret () hx hb hr hlk hw (by unfold wayR; rw [if_neg ho1]) (by omega) (by omega) d_M_way_27)
  · skip
    have ho1 := an_1 ho2 c_11
    have hpos := hE1 ho1
    refine lv_aload_n hx hb d_M_way_14 rfl (lv_at hl 0 rfl) ?_
    refine g_M_46 hx hb hts hown hK hw 0 rfl rfl d_M_way_15 ?_
    refine lv_aload_n hx hb d_M_way_18 rfl (lv_at hl 0 rfl) ?_
    refine g_M_100 hx hb hts hown hK hw 0 rfl rfl d_M_way_19 ?_
    refine r_eq (show bw = nI (E.length - 1) from hbw ho1) ?_
    refine r_iald hx hb hK hw 11 rfl (by omega) (by omega) d_M_way_22 ?_
    refine r_eq (show (fa 11) (E.length - 1) = nI (lvE E (E.length - 1)) from (hMR.1 (E.length - 1) (by omega)).2.1) ?_
    refine lv_goto (tgt := 27) hx hb d_M_way_23 (by decide) ?_
    exact r_ret hQ (r_iret () hx hb hr hlk hw (by unfold wayR; rw [if_pos ho1]) (by omega) (by omega) d_M_way_27)
set_option maxHeartbeats 4000000 in
set_option maxRecDepth 100000 in
theorem c_M_wayAt (zl : Launch) (G : GG) (am : Nat → Nat) (fa : Nat → Nat → Int32) (zv : Nat → Value) (th bw : Int32) (n room Sx Kx : Nat) (ps pm : List (List Nat)) (B : Nat → Bool) (rs : List Rl) (E : List Ent) (S : List Nat) (md ag ov : Nat) (i : Nat) (hE : EOK n room E) (hMR : MR E S fa) (ho2 : ov ≤ 2) (hE1 : ov = 1 → 0 < E.length) (hbw : ov = 1 → bw = nI (E.length - 1)) (ho1 : ov = 1) (hi : i ≤ lvE E (E.length - 1)) (hLI : LIa E) : Ctr (S := Unit) vI zl y_M_wayAt b_M_wayAt 3 (Option.some Jvm.ClassFile.FieldType.int) 1 0 0 G [.ref (am 0), .int (nI i)] ([oM (am 0) [.int th, .int (nI n), .int (nI room), .int (nI Sx), .int (nI Kx), .int (nI rs.length), .ref (am 1), .ref (am 2), .ref (am 3), .ref (am 4), .ref (am 5), .ref (am 6), .ref (am 7), .ref (am 8), .int (nI pm.length), .int (nI E.length), .int (nI S.length), .int (nI md), .int (nI ag), .int (nI (deadN S S.length)), .int (anF ov), .int bw, .ref (am 9), .ref (am 10), .ref (am 11), .ref (am 12), .ref (am 13), .ref (am 14), .ref (am 15), .ref (am 16), .ref (am 17), .ref (am 18), zv 0, zv 1], aI G (am 1) 40 (fa 1), aI G (am 2) 40 (fa 2), aI G (am 3) 40 (fa 3), aI G (am 4) 40 (fa 4), aI G (am 5) 160 (fa 5), aI G (am 6) 160 (fa 6), aZ G (am 7) 64 (fa 7), aI G (am 8) 96 (fa 8), aI G (am 9) 98304 (fa 9), aI G (am 10) 8192 (fa 10), aI G (am 11) 8192 (fa 11), aI G (am 12) 8192 (fa 12), aI G (am 13) 8192 (fa 13), aI G (am 14) 8192 (fa 14), aI G (am 15) 8192 (fa 15), aI G (am 16) 12 (fa 16), aI G (am 17) 12 (fa 17), aI G (am 18) 12 (fa 18)]) (fun r _ => r = nI (wayK E i (E.length + 1) (E.length - 1))) (fun _ => [oM (am 0) [.int (nI 0), .int (nI n), .int (nI room), .int (nI Sx), .int (nI Kx), .int (nI rs.length), .ref (am 1), .ref (am 2), .ref (am 3), .ref (am 4), .ref (am 5), .ref (am 6), .ref (am 7), .ref (am 8), .int (nI pm.length), .int (nI E.length), .int (nI S.length), .int (nI md), .int (nI ag), .int (nI (deadN S S.length)), .int (anF ov), .int bw, .ref (am 9), .ref (am 10), .ref (am 11), .ref (am 12), .ref (am 13), .ref (am 14), .ref (am 15), .ref (am 16), .ref (am 17), .ref (am 18), zv 0, zv 1], aI G (am 1) 40 (fa 1), aI G (am 2) 40 (fa 2), aI G (am 3) 40 (fa 3), aI G (am 4) 40 (fa 4), aI G (am 5) 160 (fa 5), aI G (am 6) 160 (fa 6), aZ G (am 7) 64 (fa 7), aI G (am 8) 96 (fa 8), aI G (am 9) 98304 (fa 9), aI G (am 10) 8192 (fa 10), aI G (am 11) 8192 (fa 11), aI G (am 12) 8192 (fa 12), aI G (am 13) 8192 (fa 13), aI G (am 14) 8192 (fa 14), aI G (am 15) 8192 (fa 15), aI G (am 16) 12 (fa 16), aI G (am 17) 12 (fa 17), aI G (am 18) 12 (fa 18)]) := by
  refine Ctr.start (by decide) (Nat.le_of_ble_eq_true rfl) ?_
  intro zp ze zs zm below meth zc A ls C0 hin hK hA hl hw
  obtain ⟨hx, hb, hr, hlk, hml, hown, hts⟩ := C0
  obtain ⟨R, hRR⟩ : ∃ R : Room, R = rmL 1 0 0 := ⟨_, rfl⟩
  have hRf : R.frames = 1 := by rw [hRR]
  have hRl : R.locals = 64 * 1 := by rw [hRR]
  have hRc : R.cells = 0 := by rw [hRR]
  have hRs : R.slots = 0 := by rw [hRR]
  rw [← hRR]; clear hRR
  generalize hQ : MQ below _ _ zs _ _ A = Q
  generalize hAr : List.toArray _ = args at hts hQ ⊢
  replace hl : lv_has ls 3 [(0, .ref (am 0)), (1, .int (nI i))] := hl
  obtain ⟨H, eH⟩ : ∃ H : Heap, H = zs.heap := ⟨_, rfl⟩
  obtain ⟨locs, eL⟩ : ∃ l0 : List Loc, l0 = [] := ⟨_, rfl⟩
  rw [← eH, ← eL] at hw ⊢; clear eH eL
  have hE8 := hE.2.2
  have hpos := hE1 ho1
  have hbw1 := hbw ho1
  have han : anF ov = -2 := by rw [ho1]; rfl
  have hl0 := lv_le hLI (E.length - 1) (by omega)
  refine lv_aload_n hx hb d_M_wayAt_0 rfl (lv_at hl 0 rfl) ?_
  refine lv_aload_n hx hb d_M_wayAt_1 rfl (lv_at hl 0 rfl) ?_
  refine g_M_97 hx hb hts hown hK hw 0 rfl rfl d_M_wayAt_2 ?_
  refine lv_bipush (v := -2) hx hb d_M_wayAt_5 (by decide) ?_
  refine lv_icmp_ne (tgt := 41) hx hb d_M_wayAt_7 (by decide) (fun c_7 => ?_) (fun c_7 => ?_)
  · skip
    exact absurd han c_7
  · skip
    refine lv_iload_n hx hb d_M_wayAt_10 rfl (lv_at hl 1 rfl) ?_
    refine lv_aload_n hx hb d_M_wayAt_11 rfl (lv_at hl 0 rfl) ?_
    refine g_M_97 hx hb hts hown hK hw 0 rfl rfl d_M_wayAt_12 ?_
    refine lv_bipush (v := -2) hx hb d_M_wayAt_15 (by decide) ?_
    refine lv_icmp_ne (tgt := 34) hx hb d_M_wayAt_17 (by decide) (fun c_17 => ?_) (fun c_17 => ?_)
    · skip
      exact absurd han c_17
    · skip
      refine lv_aload_n hx hb d_M_wayAt_20 rfl (lv_at hl 0 rfl) ?_
      refine g_M_46 hx hb hts hown hK hw 0 rfl rfl d_M_wayAt_21 ?_
      refine lv_aload_n hx hb d_M_wayAt_24 rfl (lv_at hl 0 rfl) ?_
      refine g_M_100 hx hb hts hown hK hw 0 rfl rfl d_M_wayAt_25 ?_
      refine r_eq (show bw = nI (E.length - 1) from hbw1) ?_
      refine r_iald hx hb hK hw 11 rfl (by omega) (by omega) d_M_wayAt_28 ?_
      refine r_eq (show (fa 11) (E.length - 1) = nI (lvE E (E.length - 1)) from (hMR.1 (E.length - 1) (by omega)).2.1) ?_
      refine lv_iconst (v := nI 1) hx hb d_M_wayAt_29 rfl ?_
      refine r_iaddN hx hb d_M_wayAt_30 ?_
      refine lv_goto (tgt := 35) hx hb d_M_wayAt_31 (by decide) ?_
      refine xS_i (rest := [.ref (am 0)]) (As := [.int (nI i), .int (nI ((lvE E (E.length - 1)) + 1))]) hx hb hml hown hts hK hA hw k_M_113 (c_M_isOf zl G (nI i) (nI (lvE E (E.length - 1) + 1))) ([]) rfl rfl (fun _ => Nat.le_of_ble_eq_true rfl) rfl rfl hl.1 (Nat.le_of_ble_eq_true rfl) ⟨(by omega), (by omega)⟩ ⟨(by omega), (by omega)⟩ d_M_wayAt_35 (fun r u H locs hp hw1 => ?_)
      rw [if_pos ⟨nI_pos' (by omega), nI_lt (by omega) (by omega)⟩] at hp
      subst hp
      refine W.cs (cells' := 0) (slots' := 0) rfl rfl ?_
      replace hw : WW G A zs ([oM (am 0) [.int th, .int (nI n), .int (nI room), .int (nI Sx), .int (nI Kx), .int (nI rs.length), .ref (am 1), .ref (am 2), .ref (am 3), .ref (am 4), .ref (am 5), .ref (am 6), .ref (am 7), .ref (am 8), .int (nI pm.length), .int (nI E.length), .int (nI S.length), .int (nI md), .int (nI ag), .int (nI (deadN S S.length)), .int (anF ov), .int bw, .ref (am 9), .ref (am 10), .ref (am 11), .ref (am 12), .ref (am 13), .ref (am 14), .ref (am 15), .ref (am 16), .ref (am 17), .ref (am 18), zv 0, zv 1], aI G (am 1) 40 (fa 1), aI G (am 2) 40 (fa 2), aI G (am 3) 40 (fa 3), aI G (am 4) 40 (fa 4), aI G (am 5) 160 (fa 5), aI G (am 6) 160 (fa 6), aZ G (am 7) 64 (fa 7), aI G (am 8) 96 (fa 8), aI G (am 9) 98304 (fa 9), aI G (am 10) 8192 (fa 10), aI G (am 11) 8192 (fa 11), aI G (am 12) 8192 (fa 12), aI G (am 13) 8192 (fa 13), aI G (am 14) 8192 (fa 14), aI G (am 15) 8192 (fa 15), aI G (am 16) 12 (fa 16), aI G (am 17) 12 (fa 17), aI G (am 18) 12 (fa 18)]) H locs := hw1
      refine r_if_ne (tgt := 45) hx hb (by omega) d_M_wayAt_38 (by decide) (fun c_38 => ?_) (fun c_38 => ?_)
      · skip
        refine lv_iconst (v := nI 0) hx hb d_M_wayAt_45 rfl ?_
        refine lv_iconst (v := nI 0) hx hb d_M_wayAt_46 rfl ?_
        refine xV_i (rest := []) (As := [.int (nI 0), .int (nI 0)]) hx hb hml hown hts hK hA hw k_M_103 (c_M_throwing zl G (am 0) th (nI 0) (nI 0) (.int (nI n)) (.int (nI room)) (.int (nI Sx)) (.int (nI Kx)) (.int (nI rs.length)) (.ref (am 1)) (.ref (am 2)) (.ref (am 3)) (.ref (am 4)) (.ref (am 5)) (.ref (am 6)) (.ref (am 7)) (.ref (am 8)) (.int (nI pm.length)) (.int (nI E.length)) (.int (nI S.length)) (.int (nI md)) (.int (nI ag)) (.int (nI (deadN S S.length))) (.int (anF ov)) (.int bw) (.ref (am 9)) (.ref (am 10)) (.ref (am 11)) (.ref (am 12)) (.ref (am 13)) (.ref (am 14)) (.ref (am 15)) (.ref (am 16)) (.ref (am 17)) (.ref (am 18)) (zv 0) (zv 1)) ([0]) rfl rfl (fun _ => Nat.le_of_ble_eq_true rfl) 0 rfl rfl rfl rfl hl.1 (Nat.le_of_ble_eq_true rfl) ⟨(by omega), (by omega)⟩ ⟨(by omega), (by omega)⟩ d_M_wayAt_47 (fun r u3 H locs hp hw1 => ?_)
        obtain ⟨rfl, rfl⟩ := hp
        refine W.cs (cells' := 0) (slots' := 0) rfl rfl ?_
        replace hw : WW G A zs ([oM (am 0) [.int (nI 0), .int (nI n), .int (nI room), .int (nI Sx), .int (nI Kx), .int (nI rs.length), .ref (am 1), .ref (am 2), .ref (am 3), .ref (am 4), .ref (am 5), .ref (am 6), .ref (am 7), .ref (am 8), .int (nI pm.length), .int (nI E.length), .int (nI S.length), .int (nI md), .int (nI ag), .int (nI (deadN S S.length)), .int (anF ov), .int bw, .ref (am 9), .ref (am 10), .ref (am 11), .ref (am 12), .ref (am 13), .ref (am 14), .ref (am 15), .ref (am 16), .ref (am 17), .ref (am 18), zv 0, zv 1], aI G (am 1) 40 (fa 1), aI G (am 2) 40 (fa 2), aI G (am 3) 40 (fa 3), aI G (am 4) 40 (fa 4), aI G (am 5) 160 (fa 5), aI G (am 6) 160 (fa 6), aZ G (am 7) 64 (fa 7), aI G (am 8) 96 (fa 8), aI G (am 9) 98304 (fa 9), aI G (am 10) 8192 (fa 10), aI G (am 11) 8192 (fa 11), aI G (am 12) 8192 (fa 12), aI G (am 13) 8192 (fa 13), aI G (am 14) 8192 (fa 14), aI G (am 15) 8192 (fa 15), aI G (am 16) 12 (fa 16), aI G (am 17) 12 (fa 17), aI G (am 18) 12 (fa 18)]) H locs := hw1
        refine r_if_eq (tgt := 55) hx hb (by omega) d_M_wayAt_50 (by decide) (fun c_50 => ?_) (fun c_50 => ?_)
        · skip
          refine lv_aload_n hx hb d_M_wayAt_55 rfl (lv_at hl 0 rfl) ?_
          refine g_M_100 hx hb hts hown hK hw 0 rfl rfl d_M_wayAt_56 ?_
          refine r_eq (show bw = nI (E.length - 1) from hbw1) ?_
          refine lv_istore_n (lv' := [(2, .int (nI (E.length - 1))), (0, .ref (am 0)), (1, .int (nI i))]) hx hb d_M_wayAt_59 rfl hl (by decide) rfl (fun ls hl => ?_)
          have Lp60 : ∀ N_60 : Nat, ∀ (k : Nat) (f : Nat), (k < E.length) → (k < f) → (wayK E i f k = wayK E i (E.length + 1) (E.length - 1)) → k < N_60 → ∀ (H : Heap) (locs : List Loc) (ls : Array Slot), lv_has ls 3 [(0, .ref (am 0)), (1, .int (nI i)), (2, .int (nI k))] → WW G A zs ([oM (am 0) [.int (nI 0), .int (nI n), .int (nI room), .int (nI Sx), .int (nI Kx), .int (nI rs.length), .ref (am 1), .ref (am 2), .ref (am 3), .ref (am 4), .ref (am 5), .ref (am 6), .ref (am 7), .ref (am 8), .int (nI pm.length), .int (nI E.length), .int (nI S.length), .int (nI md), .int (nI ag), .int (nI (deadN S S.length)), .int (anF ov), .int bw, .ref (am 9), .ref (am 10), .ref (am 11), .ref (am 12), .ref (am 13), .ref (am 14), .ref (am 15), .ref (am 16), .ref (am 17), .ref (am 18), zv 0, zv 1], aI G (am 1) 40 (fa 1), aI G (am 2) 40 (fa 2), aI G (am 3) 40 (fa 3), aI G (am 4) 40 (fa 4), aI G (am 5) 160 (fa 5), aI G (am 6) 160 (fa 6), aZ G (am 7) 64 (fa 7), aI G (am 8) 96 (fa 8), aI G (am 9) 98304 (fa 9), aI G (am 10) 8192 (fa 10), aI G (am 11) 8192 (fa 11), aI G (am 12) 8192 (fa 12), aI G (am 13) 8192 (fa 13), aI G (am 14) 8192 (fa 14), aI G (am 15) 8192 (fa 15), aI G (am 16) 12 (fa 16), aI G (am 17) 12 (fa 17), aI G (am 18) 12 (fa 18)]) H locs → W zp zl ze R zs zm args below meth zc H locs 0 0 Q (F0 zm 60 ls []) := by
            intro N_60
            induction N_60 with
            | zero => intros; omega
            | succ N_60 ih_60 =>
              intro k f hk hkf hw9 hN_60 H locs ls hl hw
              have hlvk := lv_le hLI k hk
              refine lv_aload_n hx hb d_M_wayAt_60 rfl (lv_at hl 0 rfl) ?_
              refine g_M_46 hx hb hts hown hK hw 0 rfl rfl d_M_wayAt_61 ?_
              refine lv_iload_n hx hb d_M_wayAt_64 rfl (lv_at hl 2 rfl) ?_
              refine r_iald hx hb hK hw 11 rfl (by omega) (by omega) d_M_wayAt_65 ?_
              refine r_eq (show (fa 11) k = nI (lvE E k) from (hMR.1 k hk).2.1) ?_
              refine lv_iload_n hx hb d_M_wayAt_66 rfl (lv_at hl 1 rfl) ?_
              refine r_icmp_le (tgt := 80) hx hb (by omega) (by omega) d_M_wayAt_67 (by decide) (fun c_67 => ?_) (fun c_67 => ?_)
              · skip
                refine lv_iload_n hx hb d_M_wayAt_80 rfl (lv_at hl 2 rfl) ?_
                exact r_ret hQ (r_iret () hx hb hr hlk hw (by rw [← hw9]; cases f with | zero => omega | succ f1 => show nI k = nI (if _ then _ else _); rw [if_neg (by omega)]) (by omega) (by omega) d_M_wayAt_81)
              · skip
                obtain ⟨k1, hk1, hfr1, hlv1⟩ := way_par hLI hk c_67
                obtain ⟨f1, rfl⟩ : ∃ f1, f = f1 + 1 := ⟨f - 1, by omega⟩
                have hstep : wayK E i f1 k1 = wayK E i (f1 + 1) k := by show _ = (if _ then _ else _); rw [if_pos c_67, hfr1, nI_clamp (by omega)]
                refine lv_aload_n hx hb d_M_wayAt_70 rfl (lv_at hl 0 rfl) ?_
                refine g_M_49 hx hb hts hown hK hw 0 rfl rfl d_M_wayAt_71 ?_
                refine lv_iload_n hx hb d_M_wayAt_74 rfl (lv_at hl 2 rfl) ?_
                refine r_iald hx hb hK hw 12 rfl (by omega) (by omega) d_M_wayAt_75 ?_
                refine r_eq (show (fa 12) k = nI k1 from ((hMR.1 k hk).2.2.1).trans hfr1) ?_
                refine lv_istore_n (lv' := [(2, .int (nI k1)), (0, .ref (am 0)), (1, .int (nI i))]) hx hb d_M_wayAt_76 rfl hl (by decide) rfl (fun ls hl => ?_)
                refine lv_goto (tgt := 60) hx hb d_M_wayAt_77 (by decide) ?_
                exact ih_60 k1 f1 (by omega) (by omega) (by rw [← hw9]; exact hstep) (by omega) _ _ _ (lv_sub hl [1, 2, 0] rfl) hw
          exact Lp60 _ (E.length - 1) (E.length + 1) (by omega) (by omega) rfl (Nat.lt_succ_self _) _ _ _ (lv_sub hl [1, 2, 0] rfl) hw
        · skip
          exact absurd c_50 (by decide)
      · skip
        exact absurd c_38 (by decide)
set_option maxHeartbeats 4000000 in
set_option maxRecDepth 100000 in
theorem c_M_wayAtX (zl : Launch) (G : GG) (am : Nat → Nat) (fa : Nat → Nat → Int32) (zv : Nat → Value) (th bw : Int32) (n room Sx Kx : Nat) (ps pm : List (List Nat)) (B : Nat → Bool) (rs : List Rl) (E : List Ent) (S : List Nat) (md ag ov : Nat) (x : Int32) (ho2 : ov ≤ 2) (ho1 : ov ≠ 1) : Ctr (S := Unit) vI zl y_M_wayAt b_M_wayAt 3 (Option.some Jvm.ClassFile.FieldType.int) 1 0 0 G [.ref (am 0), .int x] ([oM (am 0) [.int th, .int (nI n), .int (nI room), .int (nI Sx), .int (nI Kx), .int (nI rs.length), .ref (am 1), .ref (am 2), .ref (am 3), .ref (am 4), .ref (am 5), .ref (am 6), .ref (am 7), .ref (am 8), .int (nI pm.length), .int (nI E.length), .int (nI S.length), .int (nI md), .int (nI ag), .int (nI (deadN S S.length)), .int (anF ov), .int bw, .ref (am 9), .ref (am 10), .ref (am 11), .ref (am 12), .ref (am 13), .ref (am 14), .ref (am 15), .ref (am 16), .ref (am 17), .ref (am 18), zv 0, zv 1], aI G (am 1) 40 (fa 1), aI G (am 2) 40 (fa 2), aI G (am 3) 40 (fa 3), aI G (am 4) 40 (fa 4), aI G (am 5) 160 (fa 5), aI G (am 6) 160 (fa 6), aZ G (am 7) 64 (fa 7), aI G (am 8) 96 (fa 8), aI G (am 9) 98304 (fa 9), aI G (am 10) 8192 (fa 10), aI G (am 11) 8192 (fa 11), aI G (am 12) 8192 (fa 12), aI G (am 13) 8192 (fa 13), aI G (am 14) 8192 (fa 14), aI G (am 15) 8192 (fa 15), aI G (am 16) 12 (fa 16), aI G (am 17) 12 (fa 17), aI G (am 18) 12 (fa 18)]) (fun _ _ => True) (fun _ => [oM (am 0) [.int (nI 1), .int (nI n), .int (nI room), .int (nI Sx), .int (nI Kx), .int (nI rs.length), .ref (am 1), .ref (am 2), .ref (am 3), .ref (am 4), .ref (am 5), .ref (am 6), .ref (am 7), .ref (am 8), .int (nI pm.length), .int (nI E.length), .int (nI S.length), .int (nI md), .int (nI ag), .int (nI (deadN S S.length)), .int (anF ov), .int bw, .ref (am 9), .ref (am 10), .ref (am 11), .ref (am 12), .ref (am 13), .ref (am 14), .ref (am 15), .ref (am 16), .ref (am 17), .ref (am 18), zv 0, zv 1], aI G (am 1) 40 (fa 1), aI G (am 2) 40 (fa 2), aI G (am 3) 40 (fa 3), aI G (am 4) 40 (fa 4), aI G (am 5) 160 (fa 5), aI G (am 6) 160 (fa 6), aZ G (am 7) 64 (fa 7), aI G (am 8) 96 (fa 8), aI G (am 9) 98304 (fa 9), aI G (am 10) 8192 (fa 10), aI G (am 11) 8192 (fa 11), aI G (am 12) 8192 (fa 12), aI G (am 13) 8192 (fa 13), aI G (am 14) 8192 (fa 14), aI G (am 15) 8192 (fa 15), aI G (am 16) 12 (fa 16), aI G (am 17) 12 (fa 17), aI G (am 18) 12 (fa 18)]) := by
  refine Ctr.start (by decide) (Nat.le_of_ble_eq_true rfl) ?_
  intro zp ze zs zm below meth zc A ls C0 hin hK hA hl hw
  obtain ⟨hx, hb, hr, hlk, hml, hown, hts⟩ := C0
  obtain ⟨R, hRR⟩ : ∃ R : Room, R = rmL 1 0 0 := ⟨_, rfl⟩
  have hRf : R.frames = 1 := by rw [hRR]
  have hRl : R.locals = 64 * 1 := by rw [hRR]
  have hRc : R.cells = 0 := by rw [hRR]
  have hRs : R.slots = 0 := by rw [hRR]
  rw [← hRR]; clear hRR
  generalize hQ : MQ below _ _ zs _ _ A = Q
  generalize hAr : List.toArray _ = args at hts hQ ⊢
  replace hl : lv_has ls 3 [(0, .ref (am 0)), (1, .int x)] := hl
  obtain ⟨H, eH⟩ : ∃ H : Heap, H = zs.heap := ⟨_, rfl⟩
  obtain ⟨locs, eL⟩ : ∃ l0 : List Loc, l0 = [] := ⟨_, rfl⟩
  rw [← eH, ← eL] at hw ⊢; clear eH eL
  refine lv_aload_n hx hb d_M_wayAt_0 rfl (lv_at hl 0 rfl) ?_
  refine lv_aload_n hx hb d_M_wayAt_1 rfl (lv_at hl 0 rfl) ?_
  refine g_M_97 hx hb hts hown hK hw 0 rfl rfl d_M_wayAt_2 ?_
  refine lv_bipush (v := -2) hx hb d_M_wayAt_5 (by decide) ?_
  refine lv_icmp_ne (tgt := 41) hx hb d_M_wayAt_7 (by decide) (fun c_7 => ?_) (fun c_7 => ?_)
  · skip
    refine lv_iconst (v := nI 1) hx hb d_M_wayAt_41 rfl ?_
    refine lv_goto (tgt := 46) hx hb d_M_wayAt_42 (by decide) ?_
    refine lv_iconst (v := nI 0) hx hb d_M_wayAt_46 rfl ?_
    refine xV_i (rest := []) (As := [.int (nI 1), .int (nI 0)]) hx hb hml hown hts hK hA hw k_M_103 (c_M_throwing zl G (am 0) th (nI 1) (nI 0) (.int (nI n)) (.int (nI room)) (.int (nI Sx)) (.int (nI Kx)) (.int (nI rs.length)) (.ref (am 1)) (.ref (am 2)) (.ref (am 3)) (.ref (am 4)) (.ref (am 5)) (.ref (am 6)) (.ref (am 7)) (.ref (am 8)) (.int (nI pm.length)) (.int (nI E.length)) (.int (nI S.length)) (.int (nI md)) (.int (nI ag)) (.int (nI (deadN S S.length))) (.int (anF ov)) (.int bw) (.ref (am 9)) (.ref (am 10)) (.ref (am 11)) (.ref (am 12)) (.ref (am 13)) (.ref (am 14)) (.ref (am 15)) (.ref (am 16)) (.ref (am 17)) (.ref (am 18)) (zv 0) (zv 1)) ([0]) rfl rfl (fun _ => Nat.le_of_ble_eq_true rfl) 0 rfl rfl rfl rfl hl.1 (Nat.le_of_ble_eq_true rfl) ⟨(by omega), (by omega)⟩ ⟨(by omega), (by omega)⟩ d_M_wayAt_47 (fun r u3 H locs hp hw1 => ?_)
    obtain ⟨rfl, rfl⟩ := hp
    refine W.cs (cells' := 0) (slots' := 0) rfl rfl ?_
    replace hw : WW G A zs ([oM (am 0) [.int (nI 1), .int (nI n), .int (nI room), .int (nI Sx), .int (nI Kx), .int (nI rs.length), .ref (am 1), .ref (am 2), .ref (am 3), .ref (am 4), .ref (am 5), .ref (am 6), .ref (am 7), .ref (am 8), .int (nI pm.length), .int (nI E.length), .int (nI S.length), .int (nI md), .int (nI ag), .int (nI (deadN S S.length)), .int (anF ov), .int bw, .ref (am 9), .ref (am 10), .ref (am 11), .ref (am 12), .ref (am 13), .ref (am 14), .ref (am 15), .ref (am 16), .ref (am 17), .ref (am 18), zv 0, zv 1], aI G (am 1) 40 (fa 1), aI G (am 2) 40 (fa 2), aI G (am 3) 40 (fa 3), aI G (am 4) 40 (fa 4), aI G (am 5) 160 (fa 5), aI G (am 6) 160 (fa 6), aZ G (am 7) 64 (fa 7), aI G (am 8) 96 (fa 8), aI G (am 9) 98304 (fa 9), aI G (am 10) 8192 (fa 10), aI G (am 11) 8192 (fa 11), aI G (am 12) 8192 (fa 12), aI G (am 13) 8192 (fa 13), aI G (am 14) 8192 (fa 14), aI G (am 15) 8192 (fa 15), aI G (am 16) 12 (fa 16), aI G (am 17) 12 (fa 17), aI G (am 18) 12 (fa 18)]) H locs := hw1
    refine r_if_eq (tgt := 55) hx hb (by omega) d_M_wayAt_50 (by decide) (fun c_50 => ?_) (fun c_50 => ?_)
    · skip
      exact absurd c_50 (by decide)
    · skip
      refine lv_iconst (v := nI 0) hx hb d_M_wayAt_53 rfl ?_
      exact r_ret hQ (r_iret () hx hb hr hlk hw trivial (by omega) (by omega) d_M_wayAt_54)
  · skip
    exact absurd (an_1 ho2 c_7) ho1
set_option maxHeartbeats 4000000 in
set_option maxRecDepth 100000 in
theorem c_M_wayAtX2 (zl : Launch) (G : GG) (am : Nat → Nat) (fa : Nat → Nat → Int32) (zv : Nat → Value) (th bw : Int32) (n room Sx Kx : Nat) (ps pm : List (List Nat)) (B : Nat → Bool) (rs : List Rl) (E : List Ent) (S : List Nat) (md ag ov : Nat) (x : Int32) (hE : EOK n room E) (hMR : MR E S fa) (ho2 : ov ≤ 2) (hE1 : ov = 1 → 0 < E.length) (hbw : ov = 1 → bw = nI (E.length - 1)) (ho1 : ov = 1) (hLI : LIa E) (hbad : ¬ (0 ≤ x ∧ x < nI (lvE E (E.length - 1) + 1))) : Ctr (S := Unit) vI zl y_M_wayAt b_M_wayAt 3 (Option.some Jvm.ClassFile.FieldType.int) 1 0 0 G [.ref (am 0), .int x] ([oM (am 0) [.int th, .int (nI n), .int (nI room), .int (nI Sx), .int (nI Kx), .int (nI rs.length), .ref (am 1), .ref (am 2), .ref (am 3), .ref (am 4), .ref (am 5), .ref (am 6), .ref (am 7), .ref (am 8), .int (nI pm.length), .int (nI E.length), .int (nI S.length), .int (nI md), .int (nI ag), .int (nI (deadN S S.length)), .int (anF ov), .int bw, .ref (am 9), .ref (am 10), .ref (am 11), .ref (am 12), .ref (am 13), .ref (am 14), .ref (am 15), .ref (am 16), .ref (am 17), .ref (am 18), zv 0, zv 1], aI G (am 1) 40 (fa 1), aI G (am 2) 40 (fa 2), aI G (am 3) 40 (fa 3), aI G (am 4) 40 (fa 4), aI G (am 5) 160 (fa 5), aI G (am 6) 160 (fa 6), aZ G (am 7) 64 (fa 7), aI G (am 8) 96 (fa 8), aI G (am 9) 98304 (fa 9), aI G (am 10) 8192 (fa 10), aI G (am 11) 8192 (fa 11), aI G (am 12) 8192 (fa 12), aI G (am 13) 8192 (fa 13), aI G (am 14) 8192 (fa 14), aI G (am 15) 8192 (fa 15), aI G (am 16) 12 (fa 16), aI G (am 17) 12 (fa 17), aI G (am 18) 12 (fa 18)]) (fun _ _ => True) (fun _ => [oM (am 0) [.int (nI 1), .int (nI n), .int (nI room), .int (nI Sx), .int (nI Kx), .int (nI rs.length), .ref (am 1), .ref (am 2), .ref (am 3), .ref (am 4), .ref (am 5), .ref (am 6), .ref (am 7), .ref (am 8), .int (nI pm.length), .int (nI E.length), .int (nI S.length), .int (nI md), .int (nI ag), .int (nI (deadN S S.length)), .int (anF ov), .int bw, .ref (am 9), .ref (am 10), .ref (am 11), .ref (am 12), .ref (am 13), .ref (am 14), .ref (am 15), .ref (am 16), .ref (am 17), .ref (am 18), zv 0, zv 1], aI G (am 1) 40 (fa 1), aI G (am 2) 40 (fa 2), aI G (am 3) 40 (fa 3), aI G (am 4) 40 (fa 4), aI G (am 5) 160 (fa 5), aI G (am 6) 160 (fa 6), aZ G (am 7) 64 (fa 7), aI G (am 8) 96 (fa 8), aI G (am 9) 98304 (fa 9), aI G (am 10) 8192 (fa 10), aI G (am 11) 8192 (fa 11), aI G (am 12) 8192 (fa 12), aI G (am 13) 8192 (fa 13), aI G (am 14) 8192 (fa 14), aI G (am 15) 8192 (fa 15), aI G (am 16) 12 (fa 16), aI G (am 17) 12 (fa 17), aI G (am 18) 12 (fa 18)]) := by
  refine Ctr.start (by decide) (Nat.le_of_ble_eq_true rfl) ?_
  intro zp ze zs zm below meth zc A ls C0 hin hK hA hl hw
  obtain ⟨hx, hb, hr, hlk, hml, hown, hts⟩ := C0
  obtain ⟨R, hRR⟩ : ∃ R : Room, R = rmL 1 0 0 := ⟨_, rfl⟩
  have hRf : R.frames = 1 := by rw [hRR]
  have hRl : R.locals = 64 * 1 := by rw [hRR]
  have hRc : R.cells = 0 := by rw [hRR]
  have hRs : R.slots = 0 := by rw [hRR]
  rw [← hRR]; clear hRR
  generalize hQ : MQ below _ _ zs _ _ A = Q
  generalize hAr : List.toArray _ = args at hts hQ ⊢
  replace hl : lv_has ls 3 [(0, .ref (am 0)), (1, .int x)] := hl
  obtain ⟨H, eH⟩ : ∃ H : Heap, H = zs.heap := ⟨_, rfl⟩
  obtain ⟨locs, eL⟩ : ∃ l0 : List Loc, l0 = [] := ⟨_, rfl⟩
  rw [← eH, ← eL] at hw ⊢; clear eH eL
  have hE8 := hE.2.2
  have hpos := hE1 ho1
  have hbw1 := hbw ho1
  have han : anF ov = -2 := by rw [ho1]; rfl
  have hl0 := lv_le hLI (E.length - 1) (by omega)
  refine lv_aload_n hx hb d_M_wayAt_0 rfl (lv_at hl 0 rfl) ?_
  refine lv_aload_n hx hb d_M_wayAt_1 rfl (lv_at hl 0 rfl) ?_
  refine g_M_97 hx hb hts hown hK hw 0 rfl rfl d_M_wayAt_2 ?_
  refine lv_bipush (v := -2) hx hb d_M_wayAt_5 (by decide) ?_
  refine lv_icmp_ne (tgt := 41) hx hb d_M_wayAt_7 (by decide) (fun c_7 => ?_) (fun c_7 => ?_)
  · skip
    exact absurd han c_7
  · skip
    refine lv_iload_n hx hb d_M_wayAt_10 rfl (lv_at hl 1 rfl) ?_
    refine lv_aload_n hx hb d_M_wayAt_11 rfl (lv_at hl 0 rfl) ?_
    refine g_M_97 hx hb hts hown hK hw 0 rfl rfl d_M_wayAt_12 ?_
    refine lv_bipush (v := -2) hx hb d_M_wayAt_15 (by decide) ?_
    refine lv_icmp_ne (tgt := 34) hx hb d_M_wayAt_17 (by decide) (fun c_17 => ?_) (fun c_17 => ?_)
    · skip
      exact absurd han c_17
    · skip
      refine lv_aload_n hx hb d_M_wayAt_20 rfl (lv_at hl 0 rfl) ?_
      refine g_M_46 hx hb hts hown hK hw 0 rfl rfl d_M_wayAt_21 ?_
      refine lv_aload_n hx hb d_M_wayAt_24 rfl (lv_at hl 0 rfl) ?_
      refine g_M_100 hx hb hts hown hK hw 0 rfl rfl d_M_wayAt_25 ?_
      refine r_eq (show bw = nI (E.length - 1) from hbw1) ?_
      refine r_iald hx hb hK hw 11 rfl (by omega) (by omega) d_M_wayAt_28 ?_
      refine r_eq (show (fa 11) (E.length - 1) = nI (lvE E (E.length - 1)) from (hMR.1 (E.length - 1) (by omega)).2.1) ?_
      refine lv_iconst (v := nI 1) hx hb d_M_wayAt_29 rfl ?_
      refine r_iaddN hx hb d_M_wayAt_30 ?_
      refine lv_goto (tgt := 35) hx hb d_M_wayAt_31 (by decide) ?_
      by_cases ho_35 : 0 ≤ x ∧ x < nI (lvE E (E.length - 1) + 1)
      · skip
        refine xS_i (rest := [.ref (am 0)]) (As := [.int x, .int (nI ((lvE E (E.length - 1)) + 1))]) hx hb hml hown hts hK hA hw k_M_113 (c_M_isOf zl G x (nI (lvE E (E.length - 1) + 1))) ([]) rfl rfl (fun _ => Nat.le_of_ble_eq_true rfl) rfl rfl hl.1 (Nat.le_of_ble_eq_true rfl) ⟨(by omega), (by omega)⟩ ⟨(by omega), (by omega)⟩ d_M_wayAt_35 (fun r u H locs hp hw1 => ?_)
        rw [if_pos ho_35] at hp
        subst hp
        refine W.cs (cells' := 0) (slots' := 0) rfl rfl ?_
        replace hw : WW G A zs ([oM (am 0) [.int th, .int (nI n), .int (nI room), .int (nI Sx), .int (nI Kx), .int (nI rs.length), .ref (am 1), .ref (am 2), .ref (am 3), .ref (am 4), .ref (am 5), .ref (am 6), .ref (am 7), .ref (am 8), .int (nI pm.length), .int (nI E.length), .int (nI S.length), .int (nI md), .int (nI ag), .int (nI (deadN S S.length)), .int (anF ov), .int bw, .ref (am 9), .ref (am 10), .ref (am 11), .ref (am 12), .ref (am 13), .ref (am 14), .ref (am 15), .ref (am 16), .ref (am 17), .ref (am 18), zv 0, zv 1], aI G (am 1) 40 (fa 1), aI G (am 2) 40 (fa 2), aI G (am 3) 40 (fa 3), aI G (am 4) 40 (fa 4), aI G (am 5) 160 (fa 5), aI G (am 6) 160 (fa 6), aZ G (am 7) 64 (fa 7), aI G (am 8) 96 (fa 8), aI G (am 9) 98304 (fa 9), aI G (am 10) 8192 (fa 10), aI G (am 11) 8192 (fa 11), aI G (am 12) 8192 (fa 12), aI G (am 13) 8192 (fa 13), aI G (am 14) 8192 (fa 14), aI G (am 15) 8192 (fa 15), aI G (am 16) 12 (fa 16), aI G (am 17) 12 (fa 17), aI G (am 18) 12 (fa 18)]) H locs := hw1
        refine r_if_ne (tgt := 45) hx hb (by omega) d_M_wayAt_38 (by decide) (fun c_38 => ?_) (fun c_38 => ?_)
        · skip
          exact absurd ho_35 hbad
        · skip
          exact absurd c_38 (by decide)
      · skip
        refine xS_i (rest := [.ref (am 0)]) (As := [.int x, .int (nI ((lvE E (E.length - 1)) + 1))]) hx hb hml hown hts hK hA hw k_M_113 (c_M_isOf zl G x (nI (lvE E (E.length - 1) + 1))) ([]) rfl rfl (fun _ => Nat.le_of_ble_eq_true rfl) rfl rfl hl.1 (Nat.le_of_ble_eq_true rfl) ⟨(by omega), (by omega)⟩ ⟨(by omega), (by omega)⟩ d_M_wayAt_35 (fun r u H locs hp hw1 => ?_)
        rw [if_neg ho_35] at hp
        subst hp
        refine W.cs (cells' := 0) (slots' := 0) rfl rfl ?_
        replace hw : WW G A zs ([oM (am 0) [.int th, .int (nI n), .int (nI room), .int (nI Sx), .int (nI Kx), .int (nI rs.length), .ref (am 1), .ref (am 2), .ref (am 3), .ref (am 4), .ref (am 5), .ref (am 6), .ref (am 7), .ref (am 8), .int (nI pm.length), .int (nI E.length), .int (nI S.length), .int (nI md), .int (nI ag), .int (nI (deadN S S.length)), .int (anF ov), .int bw, .ref (am 9), .ref (am 10), .ref (am 11), .ref (am 12), .ref (am 13), .ref (am 14), .ref (am 15), .ref (am 16), .ref (am 17), .ref (am 18), zv 0, zv 1], aI G (am 1) 40 (fa 1), aI G (am 2) 40 (fa 2), aI G (am 3) 40 (fa 3), aI G (am 4) 40 (fa 4), aI G (am 5) 160 (fa 5), aI G (am 6) 160 (fa 6), aZ G (am 7) 64 (fa 7), aI G (am 8) 96 (fa 8), aI G (am 9) 98304 (fa 9), aI G (am 10) 8192 (fa 10), aI G (am 11) 8192 (fa 11), aI G (am 12) 8192 (fa 12), aI G (am 13) 8192 (fa 13), aI G (am 14) 8192 (fa 14), aI G (am 15) 8192 (fa 15), aI G (am 16) 12 (fa 16), aI G (am 17) 12 (fa 17), aI G (am 18) 12 (fa 18)]) H locs := hw1
        refine r_if_ne (tgt := 45) hx hb (by omega) d_M_wayAt_38 (by decide) (fun c_38 => ?_) (fun c_38 => ?_)
        · skip
          exact absurd c_38 (by decide)
        · skip
          refine lv_iconst (v := nI 1) hx hb d_M_wayAt_41 rfl ?_
          refine lv_goto (tgt := 46) hx hb d_M_wayAt_42 (by decide) ?_
          refine lv_iconst (v := nI 0) hx hb d_M_wayAt_46 rfl ?_
          refine xV_i (rest := []) (As := [.int (nI 1), .int (nI 0)]) hx hb hml hown hts hK hA hw k_M_103 (c_M_throwing zl G (am 0) th (nI 1) (nI 0) (.int (nI n)) (.int (nI room)) (.int (nI Sx)) (.int (nI Kx)) (.int (nI rs.length)) (.ref (am 1)) (.ref (am 2)) (.ref (am 3)) (.ref (am 4)) (.ref (am 5)) (.ref (am 6)) (.ref (am 7)) (.ref (am 8)) (.int (nI pm.length)) (.int (nI E.length)) (.int (nI S.length)) (.int (nI md)) (.int (nI ag)) (.int (nI (deadN S S.length))) (.int (anF ov)) (.int bw) (.ref (am 9)) (.ref (am 10)) (.ref (am 11)) (.ref (am 12)) (.ref (am 13)) (.ref (am 14)) (.ref (am 15)) (.ref (am 16)) (.ref (am 17)) (.ref (am 18)) (zv 0) (zv 1)) ([0]) rfl rfl (fun _ => Nat.le_of_ble_eq_true rfl) 0 rfl rfl rfl rfl hl.1 (Nat.le_of_ble_eq_true rfl) ⟨(by omega), (by omega)⟩ ⟨(by omega), (by omega)⟩ d_M_wayAt_47 (fun r u3 H locs hp hw1 => ?_)
          obtain ⟨rfl, rfl⟩ := hp
          refine W.cs (cells' := 0) (slots' := 0) rfl rfl ?_
          replace hw : WW G A zs ([oM (am 0) [.int (nI 1), .int (nI n), .int (nI room), .int (nI Sx), .int (nI Kx), .int (nI rs.length), .ref (am 1), .ref (am 2), .ref (am 3), .ref (am 4), .ref (am 5), .ref (am 6), .ref (am 7), .ref (am 8), .int (nI pm.length), .int (nI E.length), .int (nI S.length), .int (nI md), .int (nI ag), .int (nI (deadN S S.length)), .int (anF ov), .int bw, .ref (am 9), .ref (am 10), .ref (am 11), .ref (am 12), .ref (am 13), .ref (am 14), .ref (am 15), .ref (am 16), .ref (am 17), .ref (am 18), zv 0, zv 1], aI G (am 1) 40 (fa 1), aI G (am 2) 40 (fa 2), aI G (am 3) 40 (fa 3), aI G (am 4) 40 (fa 4), aI G (am 5) 160 (fa 5), aI G (am 6) 160 (fa 6), aZ G (am 7) 64 (fa 7), aI G (am 8) 96 (fa 8), aI G (am 9) 98304 (fa 9), aI G (am 10) 8192 (fa 10), aI G (am 11) 8192 (fa 11), aI G (am 12) 8192 (fa 12), aI G (am 13) 8192 (fa 13), aI G (am 14) 8192 (fa 14), aI G (am 15) 8192 (fa 15), aI G (am 16) 12 (fa 16), aI G (am 17) 12 (fa 17), aI G (am 18) 12 (fa 18)]) H locs := hw1
          refine r_if_eq (tgt := 55) hx hb (by omega) d_M_wayAt_50 (by decide) (fun c_50 => ?_) (fun c_50 => ?_)
          · skip
            exact absurd c_50 (by decide)
          · skip
            refine lv_iconst (v := nI 0) hx hb d_M_wayAt_53 rfl ?_
            exact r_ret hQ (r_iret () hx hb hr hlk hw trivial (by omega) (by omega) d_M_wayAt_54)
set_option maxHeartbeats 4000000 in
set_option maxRecDepth 100000 in
theorem c_M_greatestLevel (zl : Launch) (G : GG) (am : Nat → Nat) (fa : Nat → Nat → Int32) (zv : Nat → Value) (th bw : Int32) (n room Sx Kx : Nat) (ps pm : List (List Nat)) (B : Nat → Bool) (rs : List Rl) (E : List Ent) (S : List Nat) (md ag ov : Nat) (hE : EOK n room E) (hMR : MR E S fa) (hLM : LMa E) (hLI : LIa E) : Ctr (S := Unit) vI zl y_M_greatestLevel b_M_greatestLevel 3 (Option.some Jvm.ClassFile.FieldType.int) 0 0 0 G [.ref (am 0)] ([oM (am 0) [.int th, .int (nI n), .int (nI room), .int (nI Sx), .int (nI Kx), .int (nI rs.length), .ref (am 1), .ref (am 2), .ref (am 3), .ref (am 4), .ref (am 5), .ref (am 6), .ref (am 7), .ref (am 8), .int (nI pm.length), .int (nI E.length), .int (nI S.length), .int (nI md), .int (nI ag), .int (nI (deadN S S.length)), .int (anF ov), .int bw, .ref (am 9), .ref (am 10), .ref (am 11), .ref (am 12), .ref (am 13), .ref (am 14), .ref (am 15), .ref (am 16), .ref (am 17), .ref (am 18), zv 0, zv 1], aI G (am 1) 40 (fa 1), aI G (am 2) 40 (fa 2), aI G (am 3) 40 (fa 3), aI G (am 4) 40 (fa 4), aI G (am 5) 160 (fa 5), aI G (am 6) 160 (fa 6), aZ G (am 7) 64 (fa 7), aI G (am 8) 96 (fa 8), aI G (am 9) 98304 (fa 9), aI G (am 10) 8192 (fa 10), aI G (am 11) 8192 (fa 11), aI G (am 12) 8192 (fa 12), aI G (am 13) 8192 (fa 13), aI G (am 14) 8192 (fa 14), aI G (am 15) 8192 (fa 15), aI G (am 16) 12 (fa 16), aI G (am 17) 12 (fa 17), aI G (am 18) 12 (fa 18)]) (fun r _ => r = if E.length = 0 then -1 else nI (lvE E (E.length - 1))) (fun _ => [oM (am 0) [.int th, .int (nI n), .int (nI room), .int (nI Sx), .int (nI Kx), .int (nI rs.length), .ref (am 1), .ref (am 2), .ref (am 3), .ref (am 4), .ref (am 5), .ref (am 6), .ref (am 7), .ref (am 8), .int (nI pm.length), .int (nI E.length), .int (nI S.length), .int (nI md), .int (nI ag), .int (nI (deadN S S.length)), .int (anF ov), .int bw, .ref (am 9), .ref (am 10), .ref (am 11), .ref (am 12), .ref (am 13), .ref (am 14), .ref (am 15), .ref (am 16), .ref (am 17), .ref (am 18), zv 0, zv 1], aI G (am 1) 40 (fa 1), aI G (am 2) 40 (fa 2), aI G (am 3) 40 (fa 3), aI G (am 4) 40 (fa 4), aI G (am 5) 160 (fa 5), aI G (am 6) 160 (fa 6), aZ G (am 7) 64 (fa 7), aI G (am 8) 96 (fa 8), aI G (am 9) 98304 (fa 9), aI G (am 10) 8192 (fa 10), aI G (am 11) 8192 (fa 11), aI G (am 12) 8192 (fa 12), aI G (am 13) 8192 (fa 13), aI G (am 14) 8192 (fa 14), aI G (am 15) 8192 (fa 15), aI G (am 16) 12 (fa 16), aI G (am 17) 12 (fa 17), aI G (am 18) 12 (fa 18)]) := by
  refine Ctr.start (by decide) (Nat.le_of_ble_eq_true rfl) ?_
  intro zp ze zs zm below meth zc A ls C0 hin hK hA hl hw
  obtain ⟨hx, hb, hr, hlk, hml, hown, hts⟩ := C0
  obtain ⟨R, hRR⟩ : ∃ R : Room, R = rmL 0 0 0 := ⟨_, rfl⟩
  have hRf : R.frames = 0 := by rw [hRR]
  have hRl : R.locals = 64 * 0 := by rw [hRR]
  have hRc : R.cells = 0 := by rw [hRR]
  have hRs : R.slots = 0 := by rw [hRR]
  rw [← hRR]; clear hRR
  generalize hQ : MQ below _ _ zs _ _ A = Q
  generalize hAr : List.toArray _ = args at hts hQ ⊢
  replace hl : lv_has ls 3 [(0, .ref (am 0))] := hl
  obtain ⟨H, eH⟩ : ∃ H : Heap, H = zs.heap := ⟨_, rfl⟩
  obtain ⟨locs, eL⟩ : ∃ l0 : List Loc, l0 = [] := ⟨_, rfl⟩
  rw [← eH, ← eL] at hw ⊢; clear eH eL
  have hE8 := hE.2.2
  refine lv_iconst (v := -1) hx hb d_M_greatestLevel_0 (by decide) ?_
  refine lv_istore_n (lv' := [(1, .int (-1)), (0, .ref (am 0))]) hx hb d_M_greatestLevel_1 rfl hl (by decide) rfl (fun ls hl => ?_)
  refine lv_iconst (v := nI 0) hx hb d_M_greatestLevel_2 rfl ?_
  refine lv_istore_n (lv' := [(2, .int (nI 0)), (1, .int (-1)), (0, .ref (am 0))]) hx hb d_M_greatestLevel_3 rfl hl (by decide) rfl (fun ls hl => ?_)
  have Lp4 : ∀ N_4 : Nat, ∀ (k : Nat) (mo : Int32), (k ≤ E.length) → (mo = glA E k) → E.length - k < N_4 → ∀ (H : Heap) (locs : List Loc) (ls : Array Slot), lv_has ls 3 [(0, .ref (am 0)), (1, .int mo), (2, .int (nI k))] → WW G A zs ([oM (am 0) [.int th, .int (nI n), .int (nI room), .int (nI Sx), .int (nI Kx), .int (nI rs.length), .ref (am 1), .ref (am 2), .ref (am 3), .ref (am 4), .ref (am 5), .ref (am 6), .ref (am 7), .ref (am 8), .int (nI pm.length), .int (nI E.length), .int (nI S.length), .int (nI md), .int (nI ag), .int (nI (deadN S S.length)), .int (anF ov), .int bw, .ref (am 9), .ref (am 10), .ref (am 11), .ref (am 12), .ref (am 13), .ref (am 14), .ref (am 15), .ref (am 16), .ref (am 17), .ref (am 18), zv 0, zv 1], aI G (am 1) 40 (fa 1), aI G (am 2) 40 (fa 2), aI G (am 3) 40 (fa 3), aI G (am 4) 40 (fa 4), aI G (am 5) 160 (fa 5), aI G (am 6) 160 (fa 6), aZ G (am 7) 64 (fa 7), aI G (am 8) 96 (fa 8), aI G (am 9) 98304 (fa 9), aI G (am 10) 8192 (fa 10), aI G (am 11) 8192 (fa 11), aI G (am 12) 8192 (fa 12), aI G (am 13) 8192 (fa 13), aI G (am 14) 8192 (fa 14), aI G (am 15) 8192 (fa 15), aI G (am 16) 12 (fa 16), aI G (am 17) 12 (fa 17), aI G (am 18) 12 (fa 18)]) H locs → W zp zl ze R zs zm args below meth zc H locs 0 0 Q (F0 zm 4 ls []) := by
    intro N_4
    induction N_4 with
    | zero => intros; omega
    | succ N_4 ih_4 =>
      intro k mo hk hmo hN_4 H locs ls hl hw
      refine lv_iload_n hx hb d_M_greatestLevel_4 rfl (lv_at hl 2 rfl) ?_
      refine lv_aload_n hx hb d_M_greatestLevel_5 rfl (lv_at hl 0 rfl) ?_
      refine g_M_82 hx hb hts hown hK hw 0 rfl rfl d_M_greatestLevel_6 ?_
      refine r_icmp_ge (tgt := 39) hx hb (by omega) (by omega) d_M_greatestLevel_9 (by decide) (fun c_9 => ?_) (fun c_9 => ?_)
      · skip
        refine lv_iload_n hx hb d_M_greatestLevel_39 rfl (lv_at hl 1 rfl) ?_
        exact r_ret hQ (r_iret () hx hb hr hlk hw (by rw [hmo]; exact gl_fin (by omega)) (by omega) (by omega) d_M_greatestLevel_40)
      · skip
        refine lv_aload_n hx hb d_M_greatestLevel_12 rfl (lv_at hl 0 rfl) ?_
        refine g_M_46 hx hb hts hown hK hw 0 rfl rfl d_M_greatestLevel_13 ?_
        refine lv_iload_n hx hb d_M_greatestLevel_16 rfl (lv_at hl 2 rfl) ?_
        refine r_iald hx hb hK hw 11 rfl (by omega) (by omega) d_M_greatestLevel_17 ?_
        refine r_eq (show (fa 11) k = nI (lvE E k) from (hMR.1 k c_9).2.1) ?_
        refine lv_iload_n hx hb d_M_greatestLevel_18 rfl (lv_at hl 1 rfl) ?_
        refine lv_icmp_le (tgt := 31) hx hb d_M_greatestLevel_19 (by decide) (fun c_19 => ?_) (fun c_19 => ?_)
        · skip
          refine lv_iload_n hx hb d_M_greatestLevel_31 rfl (lv_at hl 1 rfl) ?_
          refine lv_istore_n (lv' := [(1, .int mo), (0, .ref (am 0)), (2, .int (nI k))]) hx hb d_M_greatestLevel_32 rfl hl (by decide) rfl (fun ls hl => ?_)
          refine r_iincN (n := 1) (lv' := [(2, .int (nI (k + 1))), (1, .int mo), (0, .ref (am 0))]) hx hb d_M_greatestLevel_33 hl (k := 2) rfl (by decide) rfl (fun ls hl => ?_)
          refine lv_goto (tgt := 4) hx hb d_M_greatestLevel_36 (by decide) ?_
          exact ih_4 (k + 1) mo (by omega) (gl_keep hmo hLM hLI c_9 (by omega) c_19) (by omega) _ _ _ (lv_sub hl [2, 1, 0] rfl) hw
        · skip
          refine lv_aload_n hx hb d_M_greatestLevel_22 rfl (lv_at hl 0 rfl) ?_
          refine g_M_46 hx hb hts hown hK hw 0 rfl rfl d_M_greatestLevel_23 ?_
          refine lv_iload_n hx hb d_M_greatestLevel_26 rfl (lv_at hl 2 rfl) ?_
          refine r_iald hx hb hK hw 11 rfl (by omega) (by omega) d_M_greatestLevel_27 ?_
          refine r_eq (show (fa 11) k = nI (lvE E k) from (hMR.1 k c_9).2.1) ?_
          refine lv_goto (tgt := 32) hx hb d_M_greatestLevel_28 (by decide) ?_
          refine lv_istore_n (lv' := [(1, .int (nI (lvE E k))), (0, .ref (am 0)), (2, .int (nI k))]) hx hb d_M_greatestLevel_32 rfl hl (by decide) rfl (fun ls hl => ?_)
          refine r_iincN (n := 1) (lv' := [(2, .int (nI (k + 1))), (1, .int (nI (lvE E k))), (0, .ref (am 0))]) hx hb d_M_greatestLevel_33 hl (k := 2) rfl (by decide) rfl (fun ls hl => ?_)
          refine lv_goto (tgt := 4) hx hb d_M_greatestLevel_36 (by decide) ?_
          exact ih_4 (k + 1) (nI (lvE E k)) (by omega) gl_up (by omega) _ _ _ (lv_sub hl [2, 1, 0] rfl) hw
  exact Lp4 _ 0 (-1) (by omega) rfl (Nat.lt_succ_self _) _ _ _ (lv_sub hl [2, 1, 0] rfl) hw
set_option maxHeartbeats 4000000 in
set_option maxRecDepth 100000 in
theorem c_M_sums (zl : Launch) (G : GG) (am : Nat → Nat) (fa : Nat → Nat → Int32) (zv : Nat → Value) (th bw : Int32) (n room Sx Kx : Nat) (ps pm : List (List Nat)) (B : Nat → Bool) (rs : List Rl) (E : List Ent) (S : List Nat) (md ag ov : Nat) (hE : EOK n room E) (hMR : MR E S fa) (hAL : ALa E) (h24 : pm.length ≤ 24) : Ctr (S := Unit) vI zl y_M_sums b_M_sums 3 (Option.some Jvm.ClassFile.FieldType.int) 0 0 0 G [.ref (am 0)] ([oM (am 0) [.int th, .int (nI n), .int (nI room), .int (nI Sx), .int (nI Kx), .int (nI rs.length), .ref (am 1), .ref (am 2), .ref (am 3), .ref (am 4), .ref (am 5), .ref (am 6), .ref (am 7), .ref (am 8), .int (nI pm.length), .int (nI E.length), .int (nI S.length), .int (nI md), .int (nI ag), .int (nI (deadN S S.length)), .int (anF ov), .int bw, .ref (am 9), .ref (am 10), .ref (am 11), .ref (am 12), .ref (am 13), .ref (am 14), .ref (am 15), .ref (am 16), .ref (am 17), .ref (am 18), zv 0, zv 1], aI G (am 1) 40 (fa 1), aI G (am 2) 40 (fa 2), aI G (am 3) 40 (fa 3), aI G (am 4) 40 (fa 4), aI G (am 5) 160 (fa 5), aI G (am 6) 160 (fa 6), aZ G (am 7) 64 (fa 7), aI G (am 8) 96 (fa 8), aI G (am 9) 98304 (fa 9), aI G (am 10) 8192 (fa 10), aI G (am 11) 8192 (fa 11), aI G (am 12) 8192 (fa 12), aI G (am 13) 8192 (fa 13), aI G (am 14) 8192 (fa 14), aI G (am 15) 8192 (fa 15), aI G (am 16) 12 (fa 16), aI G (am 17) 12 (fa 17), aI G (am 18) 12 (fa 18)]) (fun r _ => r = nI (sumN pm.length E E.length)) (fun _ => [oM (am 0) [.int th, .int (nI n), .int (nI room), .int (nI Sx), .int (nI Kx), .int (nI rs.length), .ref (am 1), .ref (am 2), .ref (am 3), .ref (am 4), .ref (am 5), .ref (am 6), .ref (am 7), .ref (am 8), .int (nI pm.length), .int (nI E.length), .int (nI S.length), .int (nI md), .int (nI ag), .int (nI (deadN S S.length)), .int (anF ov), .int bw, .ref (am 9), .ref (am 10), .ref (am 11), .ref (am 12), .ref (am 13), .ref (am 14), .ref (am 15), .ref (am 16), .ref (am 17), .ref (am 18), zv 0, zv 1], aI G (am 1) 40 (fa 1), aI G (am 2) 40 (fa 2), aI G (am 3) 40 (fa 3), aI G (am 4) 40 (fa 4), aI G (am 5) 160 (fa 5), aI G (am 6) 160 (fa 6), aZ G (am 7) 64 (fa 7), aI G (am 8) 96 (fa 8), aI G (am 9) 98304 (fa 9), aI G (am 10) 8192 (fa 10), aI G (am 11) 8192 (fa 11), aI G (am 12) 8192 (fa 12), aI G (am 13) 8192 (fa 13), aI G (am 14) 8192 (fa 14), aI G (am 15) 8192 (fa 15), aI G (am 16) 12 (fa 16), aI G (am 17) 12 (fa 17), aI G (am 18) 12 (fa 18)]) := by
  refine Ctr.start (by decide) (Nat.le_of_ble_eq_true rfl) ?_
  intro zp ze zs zm below meth zc A ls C0 hin hK hA hl hw
  obtain ⟨hx, hb, hr, hlk, hml, hown, hts⟩ := C0
  obtain ⟨R, hRR⟩ : ∃ R : Room, R = rmL 0 0 0 := ⟨_, rfl⟩
  have hRf : R.frames = 0 := by rw [hRR]
  have hRl : R.locals = 64 * 0 := by rw [hRR]
  have hRc : R.cells = 0 := by rw [hRR]
  have hRs : R.slots = 0 := by rw [hRR]
  rw [← hRR]; clear hRR
  generalize hQ : MQ below _ _ zs _ _ A = Q
  generalize hAr : List.toArray _ = args at hts hQ ⊢
  replace hl : lv_has ls 3 [(0, .ref (am 0))] := hl
  obtain ⟨H, eH⟩ : ∃ H : Heap, H = zs.heap := ⟨_, rfl⟩
  obtain ⟨locs, eL⟩ : ∃ l0 : List Loc, l0 = [] := ⟨_, rfl⟩
  rw [← eH, ← eL] at hw ⊢; clear eH eL
  have hE8 := hE.2.2
  refine lv_iconst (v := nI 0) hx hb d_M_sums_0 rfl ?_
  refine lv_istore_n (lv' := [(1, .int (nI 0)), (0, .ref (am 0))]) hx hb d_M_sums_1 rfl hl (by decide) rfl (fun ls hl => ?_)
  refine lv_iconst (v := nI 0) hx hb d_M_sums_2 rfl ?_
  refine lv_istore_n (lv' := [(2, .int (nI 0)), (1, .int (nI 0)), (0, .ref (am 0))]) hx hb d_M_sums_3 rfl hl (by decide) rfl (fun ls hl => ?_)
  have Lp4 : ∀ N_4 : Nat, ∀ (k : Nat), (k ≤ E.length) → E.length - k < N_4 → ∀ (H : Heap) (locs : List Loc) (ls : Array Slot), lv_has ls 3 [(0, .ref (am 0)), (1, .int (nI (sumN pm.length E k))), (2, .int (nI k))] → WW G A zs ([oM (am 0) [.int th, .int (nI n), .int (nI room), .int (nI Sx), .int (nI Kx), .int (nI rs.length), .ref (am 1), .ref (am 2), .ref (am 3), .ref (am 4), .ref (am 5), .ref (am 6), .ref (am 7), .ref (am 8), .int (nI pm.length), .int (nI E.length), .int (nI S.length), .int (nI md), .int (nI ag), .int (nI (deadN S S.length)), .int (anF ov), .int bw, .ref (am 9), .ref (am 10), .ref (am 11), .ref (am 12), .ref (am 13), .ref (am 14), .ref (am 15), .ref (am 16), .ref (am 17), .ref (am 18), zv 0, zv 1], aI G (am 1) 40 (fa 1), aI G (am 2) 40 (fa 2), aI G (am 3) 40 (fa 3), aI G (am 4) 40 (fa 4), aI G (am 5) 160 (fa 5), aI G (am 6) 160 (fa 6), aZ G (am 7) 64 (fa 7), aI G (am 8) 96 (fa 8), aI G (am 9) 98304 (fa 9), aI G (am 10) 8192 (fa 10), aI G (am 11) 8192 (fa 11), aI G (am 12) 8192 (fa 12), aI G (am 13) 8192 (fa 13), aI G (am 14) 8192 (fa 14), aI G (am 15) 8192 (fa 15), aI G (am 16) 12 (fa 16), aI G (am 17) 12 (fa 17), aI G (am 18) 12 (fa 18)]) H locs → W zp zl ze R zs zm args below meth zc H locs 0 0 Q (F0 zm 4 ls []) := by
    intro N_4
    induction N_4 with
    | zero => intros; omega
    | succ N_4 ih_4 =>
      intro k hk hN_4 H locs ls hl hw
      refine lv_iload_n hx hb d_M_sums_4 rfl (lv_at hl 2 rfl) ?_
      refine lv_aload_n hx hb d_M_sums_5 rfl (lv_at hl 0 rfl) ?_
      refine g_M_82 hx hb hts hown hK hw 0 rfl rfl d_M_sums_6 ?_
      refine r_icmp_ge (tgt := 32) hx hb (by omega) (by omega) d_M_sums_9 (by decide) (fun c_9 => ?_) (fun c_9 => ?_)
      · skip
        refine lv_iload_n hx hb d_M_sums_32 rfl (lv_at hl 1 rfl) ?_
        exact r_ret hQ (r_iret () hx hb hr hlk hw (by rw [show k = E.length by omega]) (by omega) (by omega) d_M_sums_33)
      · skip
        have hal := hAL k c_9
        refine lv_iload_n hx hb d_M_sums_12 rfl (lv_at hl 1 rfl) ?_
        refine lv_aload_n hx hb d_M_sums_13 rfl (lv_at hl 0 rfl) ?_
        refine g_M_76 hx hb hts hown hK hw 0 rfl rfl d_M_sums_14 ?_
        refine lv_aload_n hx hb d_M_sums_17 rfl (lv_at hl 0 rfl) ?_
        refine g_M_58 hx hb hts hown hK hw 0 rfl rfl d_M_sums_18 ?_
        refine lv_iload_n hx hb d_M_sums_21 rfl (lv_at hl 2 rfl) ?_
        refine r_iald hx hb hK hw 15 rfl (by omega) (by omega) d_M_sums_22 ?_
        refine r_eq (show (fa 15) k = nI ((E.getD k eD).2.2.2.2) from (hMR.1 k c_9).2.2.2.2.1) ?_
        refine r_idivN hx hb (by omega) (by omega) (by omega) d_M_sums_23 ?_
        refine r_iaddN hx hb d_M_sums_24 ?_
        refine r_eq (show nI ((sumN pm.length E k) + (pm.length / ((E.getD k eD).2.2.2.2))) = nI (sumN pm.length E (k + 1)) from rfl) ?_
        refine lv_istore_n (lv' := [(1, .int (nI (sumN pm.length E (k + 1)))), (0, .ref (am 0)), (2, .int (nI k))]) hx hb d_M_sums_25 rfl hl (by decide) rfl (fun ls hl => ?_)
        refine r_iincN (n := 1) (lv' := [(2, .int (nI (k + 1))), (1, .int (nI (sumN pm.length E (k + 1)))), (0, .ref (am 0))]) hx hb d_M_sums_26 hl (k := 2) rfl (by decide) rfl (fun ls hl => ?_)
        refine lv_goto (tgt := 4) hx hb d_M_sums_29 (by decide) ?_
        exact ih_4 (k + 1) (by omega) (by omega) _ _ _ (lv_sub hl [2, 1, 0] rfl) hw
-- MISMATCH M_sums pc 4: sumN pm.length E 0 vs 0 (local 1)
  exact Lp4 _ 0 (by omega) (Nat.lt_succ_self _) _ _ _ (lv_sub hl [2, 1, 0] rfl) hw
set_option maxHeartbeats 4000000 in
set_option maxRecDepth 100000 in
theorem c_M_count (zl : Launch) (G : GG) (am : Nat → Nat) (fa : Nat → Nat → Int32) (zv : Nat → Value) (th bw : Int32) (n room Sx Kx : Nat) (ps pm : List (List Nat)) (B : Nat → Bool) (rs : List Rl) (E : List Ent) (S : List Nat) (md ag ov : Nat) (x : Int32) (hE : EOK n room E) (hMR : MR E S fa) (hLM : LMa E) (hLI : LIa E) (hAL : ALa E) (h24 : pm.length ≤ 24) : Ctr (S := Unit) vI zl y_M_count b_M_count 2 (Option.some Jvm.ClassFile.FieldType.int) 1 0 0 G [.ref (am 0), .int x] ([oM (am 0) [.int th, .int (nI n), .int (nI room), .int (nI Sx), .int (nI Kx), .int (nI rs.length), .ref (am 1), .ref (am 2), .ref (am 3), .ref (am 4), .ref (am 5), .ref (am 6), .ref (am 7), .ref (am 8), .int (nI pm.length), .int (nI E.length), .int (nI S.length), .int (nI md), .int (nI ag), .int (nI (deadN S S.length)), .int (anF ov), .int bw, .ref (am 9), .ref (am 10), .ref (am 11), .ref (am 12), .ref (am 13), .ref (am 14), .ref (am 15), .ref (am 16), .ref (am 17), .ref (am 18), zv 0, zv 1], aI G (am 1) 40 (fa 1), aI G (am 2) 40 (fa 2), aI G (am 3) 40 (fa 3), aI G (am 4) 40 (fa 4), aI G (am 5) 160 (fa 5), aI G (am 6) 160 (fa 6), aZ G (am 7) 64 (fa 7), aI G (am 8) 96 (fa 8), aI G (am 9) 98304 (fa 9), aI G (am 10) 8192 (fa 10), aI G (am 11) 8192 (fa 11), aI G (am 12) 8192 (fa 12), aI G (am 13) 8192 (fa 13), aI G (am 14) 8192 (fa 14), aI G (am 15) 8192 (fa 15), aI G (am 16) 12 (fa 16), aI G (am 17) 12 (fa 17), aI G (am 18) 12 (fa 18)]) (fun r _ => r = cntA n Sx Kx rs.length pm.length E S md ag x) (fun _ => [oM (am 0) [.int (nI 0), .int (nI n), .int (nI room), .int (nI Sx), .int (nI Kx), .int (nI rs.length), .ref (am 1), .ref (am 2), .ref (am 3), .ref (am 4), .ref (am 5), .ref (am 6), .ref (am 7), .ref (am 8), .int (nI pm.length), .int (nI E.length), .int (nI S.length), .int (nI md), .int (nI ag), .int (nI (deadN S S.length)), .int (anF ov), .int bw, .ref (am 9), .ref (am 10), .ref (am 11), .ref (am 12), .ref (am 13), .ref (am 14), .ref (am 15), .ref (am 16), .ref (am 17), .ref (am 18), zv 0, zv 1], aI G (am 1) 40 (fa 1), aI G (am 2) 40 (fa 2), aI G (am 3) 40 (fa 3), aI G (am 4) 40 (fa 4), aI G (am 5) 160 (fa 5), aI G (am 6) 160 (fa 6), aZ G (am 7) 64 (fa 7), aI G (am 8) 96 (fa 8), aI G (am 9) 98304 (fa 9), aI G (am 10) 8192 (fa 10), aI G (am 11) 8192 (fa 11), aI G (am 12) 8192 (fa 12), aI G (am 13) 8192 (fa 13), aI G (am 14) 8192 (fa 14), aI G (am 15) 8192 (fa 15), aI G (am 16) 12 (fa 16), aI G (am 17) 12 (fa 17), aI G (am 18) 12 (fa 18)]) := by
  refine Ctr.start (by decide) (Nat.le_of_ble_eq_true rfl) ?_
  intro zp ze zs zm below meth zc A ls C0 hin hK hA hl hw
  obtain ⟨hx, hb, hr, hlk, hml, hown, hts⟩ := C0
  obtain ⟨R, hRR⟩ : ∃ R : Room, R = rmL 1 0 0 := ⟨_, rfl⟩
  have hRf : R.frames = 1 := by rw [hRR]
  have hRl : R.locals = 64 * 1 := by rw [hRR]
  have hRc : R.cells = 0 := by rw [hRR]
  have hRs : R.slots = 0 := by rw [hRR]
  rw [← hRR]; clear hRR
  generalize hQ : MQ below _ _ zs _ _ A = Q
  generalize hAr : List.toArray _ = args at hts hQ ⊢
  replace hl : lv_has ls 2 [(0, .ref (am 0)), (1, .int x)] := hl
  obtain ⟨H, eH⟩ : ∃ H : Heap, H = zs.heap := ⟨_, rfl⟩
  obtain ⟨locs, eL⟩ : ∃ l0 : List Loc, l0 = [] := ⟨_, rfl⟩
  rw [← eH, ← eL] at hw ⊢; clear eH eL
  refine lv_aload_n hx hb d_M_count_0 rfl (lv_at hl 0 rfl) ?_
  refine lv_iconst (v := nI 0) hx hb d_M_count_1 rfl ?_
  refine p_M_79 hx hb hts hown hK hw 0 rfl (Nat.le_of_ble_eq_true rfl) d_M_count_2 (fun H locs hw1 => ?_)
  replace hw : WW G A zs ([oM (am 0) [.int (nI 0), .int (nI n), .int (nI room), .int (nI Sx), .int (nI Kx), .int (nI rs.length), .ref (am 1), .ref (am 2), .ref (am 3), .ref (am 4), .ref (am 5), .ref (am 6), .ref (am 7), .ref (am 8), .int (nI pm.length), .int (nI E.length), .int (nI S.length), .int (nI md), .int (nI ag), .int (nI (deadN S S.length)), .int (anF ov), .int bw, .ref (am 9), .ref (am 10), .ref (am 11), .ref (am 12), .ref (am 13), .ref (am 14), .ref (am 15), .ref (am 16), .ref (am 17), .ref (am 18), zv 0, zv 1], aI G (am 1) 40 (fa 1), aI G (am 2) 40 (fa 2), aI G (am 3) 40 (fa 3), aI G (am 4) 40 (fa 4), aI G (am 5) 160 (fa 5), aI G (am 6) 160 (fa 6), aZ G (am 7) 64 (fa 7), aI G (am 8) 96 (fa 8), aI G (am 9) 98304 (fa 9), aI G (am 10) 8192 (fa 10), aI G (am 11) 8192 (fa 11), aI G (am 12) 8192 (fa 12), aI G (am 13) 8192 (fa 13), aI G (am 14) 8192 (fa 14), aI G (am 15) 8192 (fa 15), aI G (am 16) 12 (fa 16), aI G (am 17) 12 (fa 17), aI G (am 18) 12 (fa 18)]) H locs := hw1
  refine lv_iload_n hx hb d_M_count_5 rfl (lv_at hl 1 rfl) ?_
  by_cases sw_6_0 : x = nI 0
  · skip
    rw [sw_6_0]
    refine lv_tableIn (tgt := 64) hx hb d_M_count_6 (by decide) (by decide) rfl (by decide) ?_
    refine lv_aload_n hx hb d_M_count_64 rfl (lv_at hl 0 rfl) ?_
    refine g_M_70 hx hb hts hown hK hw 0 rfl rfl d_M_count_65 ?_
    exact r_ret hQ (r_iret () hx hb hr hlk hw (by unfold cntA; rw [ if_pos sw_6_0]) (by omega) (by omega) d_M_count_68)
  by_cases sw_6_1 : x = nI 1
  · skip
    rw [sw_6_1]
    refine lv_tableIn (tgt := 69) hx hb d_M_count_6 (by decide) (by decide) rfl (by decide) ?_
    refine lv_aload_n hx hb d_M_count_69 rfl (lv_at hl 0 rfl) ?_
    refine g_M_7 hx hb hts hown hK hw 0 rfl rfl d_M_count_70 ?_
    exact r_ret hQ (r_iret () hx hb hr hlk hw (by unfold cntA; rw [if_neg sw_6_0, if_pos sw_6_1]) (by omega) (by omega) d_M_count_73)
  by_cases sw_6_2 : x = nI 2
  · skip
    rw [sw_6_2]
    refine lv_tableIn (tgt := 74) hx hb d_M_count_6 (by decide) (by decide) rfl (by decide) ?_
    refine lv_aload_n hx hb d_M_count_74 rfl (lv_at hl 0 rfl) ?_
    refine g_M_110 hx hb hts hown hK hw 0 rfl rfl d_M_count_75 ?_
    exact r_ret hQ (r_iret () hx hb hr hlk hw (by unfold cntA; rw [if_neg sw_6_0, if_neg sw_6_1, if_pos sw_6_2]) (by omega) (by omega) d_M_count_78)
  by_cases sw_6_3 : x = nI 3
  · skip
    rw [sw_6_3]
    refine lv_tableIn (tgt := 79) hx hb d_M_count_6 (by decide) (by decide) rfl (by decide) ?_
    refine lv_aload_n hx hb d_M_count_79 rfl (lv_at hl 0 rfl) ?_
    refine g_M_117 hx hb hts hown hK hw 0 rfl rfl d_M_count_80 ?_
    exact r_ret hQ (r_iret () hx hb hr hlk hw (by unfold cntA; rw [if_neg sw_6_0, if_neg sw_6_1, if_neg sw_6_2, if_pos sw_6_3]) (by omega) (by omega) d_M_count_83)
  by_cases sw_6_4 : x = nI 4
  · skip
    rw [sw_6_4]
    refine lv_tableIn (tgt := 84) hx hb d_M_count_6 (by decide) (by decide) rfl (by decide) ?_
    refine lv_aload_n hx hb d_M_count_84 rfl (lv_at hl 0 rfl) ?_
    refine g_M_82 hx hb hts hown hK hw 0 rfl rfl d_M_count_85 ?_
    exact r_ret hQ (r_iret () hx hb hr hlk hw (by unfold cntA; rw [if_neg sw_6_0, if_neg sw_6_1, if_neg sw_6_2, if_neg sw_6_3, if_pos sw_6_4]) (by omega) (by omega) d_M_count_88)
  by_cases sw_6_5 : x = nI 5
  · skip
    rw [sw_6_5]
    refine lv_tableIn (tgt := 89) hx hb d_M_count_6 (by decide) (by decide) rfl (by decide) ?_
    refine lv_aload_n hx hb d_M_count_89 rfl (lv_at hl 0 rfl) ?_
    refine g_M_85 hx hb hts hown hK hw 0 rfl rfl d_M_count_90 ?_
    exact r_ret hQ (r_iret () hx hb hr hlk hw (by unfold cntA; rw [if_neg sw_6_0, if_neg sw_6_1, if_neg sw_6_2, if_neg sw_6_3, if_neg sw_6_4, if_pos sw_6_5]) (by omega) (by omega) d_M_count_93)
  by_cases sw_6_6 : x = nI 6
  · skip
    rw [sw_6_6]
    refine lv_tableIn (tgt := 94) hx hb d_M_count_6 (by decide) (by decide) rfl (by decide) ?_
    refine lv_aload_n hx hb d_M_count_94 rfl (lv_at hl 0 rfl) ?_
    refine xVA_i (rest := []) (As := []) hx hb hml hown hts hK hA hw k_M_173 (c_M_greatestLevel zl G am fa zv (nI 0) bw n room Sx Kx ps pm B rs E S md ag ov hE hMR hLM hLI) 0 rfl rfl rfl rfl hl.1 (Nat.le_of_ble_eq_true rfl) ⟨(by omega), (by omega)⟩ ⟨(by omega), (by omega)⟩ d_M_count_95 (fun r u H locs hp hw1 => ?_)
    refine W.cs (cells' := 0) (slots' := 0) rfl rfl ?_
    replace hw : WW G A zs ([oM (am 0) [.int (nI 0), .int (nI n), .int (nI room), .int (nI Sx), .int (nI Kx), .int (nI rs.length), .ref (am 1), .ref (am 2), .ref (am 3), .ref (am 4), .ref (am 5), .ref (am 6), .ref (am 7), .ref (am 8), .int (nI pm.length), .int (nI E.length), .int (nI S.length), .int (nI md), .int (nI ag), .int (nI (deadN S S.length)), .int (anF ov), .int bw, .ref (am 9), .ref (am 10), .ref (am 11), .ref (am 12), .ref (am 13), .ref (am 14), .ref (am 15), .ref (am 16), .ref (am 17), .ref (am 18), zv 0, zv 1], aI G (am 1) 40 (fa 1), aI G (am 2) 40 (fa 2), aI G (am 3) 40 (fa 3), aI G (am 4) 40 (fa 4), aI G (am 5) 160 (fa 5), aI G (am 6) 160 (fa 6), aZ G (am 7) 64 (fa 7), aI G (am 8) 96 (fa 8), aI G (am 9) 98304 (fa 9), aI G (am 10) 8192 (fa 10), aI G (am 11) 8192 (fa 11), aI G (am 12) 8192 (fa 12), aI G (am 13) 8192 (fa 13), aI G (am 14) 8192 (fa 14), aI G (am 15) 8192 (fa 15), aI G (am 16) 12 (fa 16), aI G (am 17) 12 (fa 17), aI G (am 18) 12 (fa 18)]) H locs := hw1
    exact r_ret hQ (r_iret () hx hb hr hlk hw (by unfold cntA; rw [if_neg sw_6_0, if_neg sw_6_1, if_neg sw_6_2, if_neg sw_6_3, if_neg sw_6_4, if_neg sw_6_5, if_pos sw_6_6]; exact hp) (by omega) (by omega) d_M_count_98)
  by_cases sw_6_7 : x = nI 7
  · skip
    rw [sw_6_7]
    refine lv_tableIn (tgt := 99) hx hb d_M_count_6 (by decide) (by decide) rfl (by decide) ?_
    refine lv_aload_n hx hb d_M_count_99 rfl (lv_at hl 0 rfl) ?_
    refine g_M_88 hx hb hts hown hK hw 0 rfl rfl d_M_count_100 ?_
    exact r_ret hQ (r_iret () hx hb hr hlk hw (by unfold cntA; rw [if_neg sw_6_0, if_neg sw_6_1, if_neg sw_6_2, if_neg sw_6_3, if_neg sw_6_4, if_neg sw_6_5, if_neg sw_6_6, if_pos sw_6_7]) (by omega) (by omega) d_M_count_103)
  by_cases sw_6_8 : x = nI 8
  · skip
    rw [sw_6_8]
    refine lv_tableIn (tgt := 104) hx hb d_M_count_6 (by decide) (by decide) rfl (by decide) ?_
    refine lv_aload_n hx hb d_M_count_104 rfl (lv_at hl 0 rfl) ?_
    refine g_M_91 hx hb hts hown hK hw 0 rfl rfl d_M_count_105 ?_
    exact r_ret hQ (r_iret () hx hb hr hlk hw (by unfold cntA; rw [if_neg sw_6_0, if_neg sw_6_1, if_neg sw_6_2, if_neg sw_6_3, if_neg sw_6_4, if_neg sw_6_5, if_neg sw_6_6, if_neg sw_6_7, if_pos sw_6_8]) (by omega) (by omega) d_M_count_108)
  by_cases sw_6_9 : x = nI 9
  · skip
    rw [sw_6_9]
    refine lv_tableIn (tgt := 109) hx hb d_M_count_6 (by decide) (by decide) rfl (by decide) ?_
    refine lv_aload_n hx hb d_M_count_109 rfl (lv_at hl 0 rfl) ?_
    refine g_M_94 hx hb hts hown hK hw 0 rfl rfl d_M_count_110 ?_
    exact r_ret hQ (r_iret () hx hb hr hlk hw (by unfold cntA; rw [if_neg sw_6_0, if_neg sw_6_1, if_neg sw_6_2, if_neg sw_6_3, if_neg sw_6_4, if_neg sw_6_5, if_neg sw_6_6, if_neg sw_6_7, if_neg sw_6_8, if_pos sw_6_9]) (by omega) (by omega) d_M_count_113)
  by_cases sw_6_10 : x = nI 10
  · skip
    rw [sw_6_10]
    refine lv_tableIn (tgt := 114) hx hb d_M_count_6 (by decide) (by decide) rfl (by decide) ?_
    refine lv_aload_n hx hb d_M_count_114 rfl (lv_at hl 0 rfl) ?_
    refine xVA_i (rest := []) (As := []) hx hb hml hown hts hK hA hw k_M_177 (c_M_sums zl G am fa zv (nI 0) bw n room Sx Kx ps pm B rs E S md ag ov hE hMR hAL h24) 0 rfl rfl rfl rfl hl.1 (Nat.le_of_ble_eq_true rfl) ⟨(by omega), (by omega)⟩ ⟨(by omega), (by omega)⟩ d_M_count_115 (fun r u H locs hp hw1 => ?_)
    refine W.cs (cells' := 0) (slots' := 0) rfl rfl ?_
    replace hw : WW G A zs ([oM (am 0) [.int (nI 0), .int (nI n), .int (nI room), .int (nI Sx), .int (nI Kx), .int (nI rs.length), .ref (am 1), .ref (am 2), .ref (am 3), .ref (am 4), .ref (am 5), .ref (am 6), .ref (am 7), .ref (am 8), .int (nI pm.length), .int (nI E.length), .int (nI S.length), .int (nI md), .int (nI ag), .int (nI (deadN S S.length)), .int (anF ov), .int bw, .ref (am 9), .ref (am 10), .ref (am 11), .ref (am 12), .ref (am 13), .ref (am 14), .ref (am 15), .ref (am 16), .ref (am 17), .ref (am 18), zv 0, zv 1], aI G (am 1) 40 (fa 1), aI G (am 2) 40 (fa 2), aI G (am 3) 40 (fa 3), aI G (am 4) 40 (fa 4), aI G (am 5) 160 (fa 5), aI G (am 6) 160 (fa 6), aZ G (am 7) 64 (fa 7), aI G (am 8) 96 (fa 8), aI G (am 9) 98304 (fa 9), aI G (am 10) 8192 (fa 10), aI G (am 11) 8192 (fa 11), aI G (am 12) 8192 (fa 12), aI G (am 13) 8192 (fa 13), aI G (am 14) 8192 (fa 14), aI G (am 15) 8192 (fa 15), aI G (am 16) 12 (fa 16), aI G (am 17) 12 (fa 17), aI G (am 18) 12 (fa 18)]) H locs := hw1
    exact r_ret hQ (r_iret () hx hb hr hlk hw (by unfold cntA; rw [if_neg sw_6_0, if_neg sw_6_1, if_neg sw_6_2, if_neg sw_6_3, if_neg sw_6_4, if_neg sw_6_5, if_neg sw_6_6, if_neg sw_6_7, if_neg sw_6_8, if_neg sw_6_9, if_pos sw_6_10]; exact hp) (by omega) (by omega) d_M_count_118)
  refine lv_tableOut (tgt := 119) hx hb d_M_count_6 (sw_out11 (fun j hj => by match j, hj with | 0, _ => exact sw_6_0 | 1, _ => exact sw_6_1 | 2, _ => exact sw_6_2 | 3, _ => exact sw_6_3 | 4, _ => exact sw_6_4 | 5, _ => exact sw_6_5 | 6, _ => exact sw_6_6 | 7, _ => exact sw_6_7 | 8, _ => exact sw_6_8 | 9, _ => exact sw_6_9 | 10, _ => exact sw_6_10)) (by decide) ?_
  refine lv_iconst (v := -1) hx hb d_M_count_119 (by decide) ?_
  exact r_ret hQ (r_iret () hx hb hr hlk hw (by unfold cntA; rw [if_neg sw_6_0, if_neg sw_6_1, if_neg sw_6_2, if_neg sw_6_3, if_neg sw_6_4, if_neg sw_6_5, if_neg sw_6_6, if_neg sw_6_7, if_neg sw_6_8, if_neg sw_6_9, if_neg sw_6_10]) (by omega) (by omega) d_M_count_120)
