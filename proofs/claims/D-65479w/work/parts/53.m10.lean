theorem kp7 {fa : Nat → Nat → Int32} {a : Nat → Int32} : ∀ i, i < 7 → va_up fa 7 a i = fa i := by
  intro i hi
  simp only [va_up]
  rw [if_neg (by omega)]
theorem an_1 {ov : Nat} (ho : ov ≤ 2) (h : anF ov = -2) : ov = 1 := by
  rcases (by omega : ov = 0 ∨ ov = 1 ∨ ov = 2) with rfl | rfl | rfl
  · exact absurd h (by decide)
  · rfl
  · exact absurd h (by decide)
theorem an_n1 {ov : Nat} (h : ¬ anF ov = -2) : ¬ ov = 1 := fun z => h (by rw [z]; rfl)
set_option maxHeartbeats 4000000 in
set_option maxRecDepth 100000 in
theorem c_M_sends (zl : Launch) (G : GG) (am : Nat → Nat) (fa : Nat → Nat → Int32) (zv : Nat → Value) (th bw : Int32) (n room Sx Kx : Nat) (ps pm : List (List Nat)) (B : Nat → Bool) (rs : List Rl) (E : List Ent) (S : List Nat) (md ag ov : Nat) (i ms wh : Nat) (hMC : MC n ps pm B fa) (hrl : MRl rs fa) (hK6 : Kx ≤ 6) (hi : i < rs.length) (hms : ms < Kx) (hwh : wh = 1 ∨ (wh = 0 ∧ (rs.getD i rD).2.1 ≠ none)) (hs4 : (rs.getD i rD).2.2.2.length < 4) : Ctr (S := Nat → Nat → Int32) vI zl y_M_sends b_M_sends 5 (Option.some Jvm.ClassFile.FieldType.int) 1 0 0 G [.ref (am 0), .int (nI i), .int (nI ms), .int (nI wh)] ([oM (am 0) [.int th, .int (nI n), .int (nI room), .int (nI Sx), .int (nI Kx), .int (nI rs.length), .ref (am 1), .ref (am 2), .ref (am 3), .ref (am 4), .ref (am 5), .ref (am 6), .ref (am 7), .ref (am 8), .int (nI pm.length), .int (nI E.length), .int (nI S.length), .int (nI md), .int (nI ag), .int (nI (deadN S S.length)), .int (anF ov), .int bw, .ref (am 9), .ref (am 10), .ref (am 11), .ref (am 12), .ref (am 13), .ref (am 14), .ref (am 15), .ref (am 16), .ref (am 17), .ref (am 18), zv 0, zv 1], aI G (am 1) 40 (fa 1), aI G (am 2) 40 (fa 2), aI G (am 3) 40 (fa 3), aI G (am 4) 40 (fa 4), aI G (am 5) 160 (fa 5), aI G (am 6) 160 (fa 6), aZ G (am 7) 64 (fa 7), aI G (am 8) 96 (fa 8), aI G (am 9) 98304 (fa 9), aI G (am 10) 8192 (fa 10), aI G (am 11) 8192 (fa 11), aI G (am 12) 8192 (fa 12), aI G (am 13) 8192 (fa 13), aI G (am 14) 8192 (fa 14), aI G (am 15) 8192 (fa 15), aI G (am 16) 12 (fa 16), aI G (am 17) 12 (fa 17), aI G (am 18) 12 (fa 18)]) (fun r u => r = nI ((rs.getD i rD).2.2.2.length + 1) ∧ MC n ps pm B u ∧ MRl (rs.set i ((rs.getD i rD).1, (rs.getD i rD).2.1, (rs.getD i rD).2.2.1, (rs.getD i rD).2.2.2 ++ [(ms, wh)])) u) (fun u => [oM (am 0) [.int (nI 0), .int (nI n), .int (nI room), .int (nI Sx), .int (nI Kx), .int (nI ((rs.set i ((rs.getD i rD).1, (rs.getD i rD).2.1, (rs.getD i rD).2.2.1, (rs.getD i rD).2.2.2 ++ [(ms, wh)])).length)), .ref (am 1), .ref (am 2), .ref (am 3), .ref (am 4), .ref (am 5), .ref (am 6), .ref (am 7), .ref (am 8), .int (nI pm.length), .int (nI (([] : List Ent).length)), .int (nI (([] : List Nat).length)), .int (nI 0), .int (nI 0), .int (nI (deadN ([] : List Nat) ([] : List Nat).length)), .int (anF 0), .int (-1), .ref (am 9), .ref (am 10), .ref (am 11), .ref (am 12), .ref (am 13), .ref (am 14), .ref (am 15), .ref (am 16), .ref (am 17), .ref (am 18), zv 0, zv 1], aI G (am 1) 40 (u 1), aI G (am 2) 40 (u 2), aI G (am 3) 40 (u 3), aI G (am 4) 40 (u 4), aI G (am 5) 160 (u 5), aI G (am 6) 160 (u 6), aZ G (am 7) 64 (u 7), aI G (am 8) 96 (u 8), aI G (am 9) 98304 (u 9), aI G (am 10) 8192 (u 10), aI G (am 11) 8192 (u 11), aI G (am 12) 8192 (u 12), aI G (am 13) 8192 (u 13), aI G (am 14) 8192 (u 14), aI G (am 15) 8192 (u 15), aI G (am 16) 12 (u 16), aI G (am 17) 12 (u 17), aI G (am 18) 12 (u 18)]) := by
  refine Ctr.start (by decide) (Nat.le_of_ble_eq_true rfl) ?_
  intro zp ze zs zm below meth zc A ls C0 hin hK hA hl hw
  obtain ⟨hx, hb, hr, hlk, hml, hown, hts⟩ := C0
  obtain ⟨R, hRR⟩ : ∃ R : Room, R = rmL 1 0 0 := ⟨_, rfl⟩
  have hRf : R.frames = 1 := by rw [hRR]
  have hRl : R.locals = 64 * 1 := by rw [hRR]
  have hRc : R.cells = 0 := by rw [hRR]
  have hRs : R.slots = 0 := by rw [hRR]
  rw [← hRR]; clear hRR
  generalize hQ : MQ below _ _ zs _ _ A = Q
  generalize hAr : List.toArray _ = args at hts hQ ⊢
  replace hl : lv_has ls 5 [(0, .ref (am 0)), (1, .int (nI i)), (2, .int (nI ms)), (3, .int (nI wh))] := hl
  obtain ⟨H, eH⟩ : ∃ H : Heap, H = zs.heap := ⟨_, rfl⟩
  obtain ⟨locs, eL⟩ : ∃ l0 : List Loc, l0 = [] := ⟨_, rfl⟩
  rw [← eH, ← eL] at hw ⊢; clear eH eL
  have hrll := hrl.1
  have hro := rs_at hrl.2.1 hi
  have hrl1 := hrl.2.2.2 i hi
  have hs4b := hro.2.2.2.2
  refine lv_iload_n hx hb d_M_sends_0 rfl (lv_at hl 1 rfl) ?_
  refine lv_aload_n hx hb d_M_sends_1 rfl (lv_at hl 0 rfl) ?_
  refine g_M_117 hx hb hts hown hK hw 0 rfl rfl d_M_sends_2 ?_
  refine xS_i (rest := []) (As := [.int (nI i), .int (nI rs.length)]) hx hb hml hown hts hK hA hw k_M_113 (c_M_isOf zl G (nI i) (nI rs.length)) ([]) rfl rfl (fun _ => Nat.le_of_ble_eq_true rfl) rfl rfl hl.1 (Nat.le_of_ble_eq_true rfl) ⟨(by omega), (by omega)⟩ ⟨(by omega), (by omega)⟩ d_M_sends_5 (fun r u H locs hp hw1 => ?_)
  rw [if_pos ⟨nI_pos' (by omega), nI_lt (by omega) (by omega)⟩] at hp
  subst hp
  refine W.cs (cells' := 0) (slots' := 0) rfl rfl ?_
  replace hw : WW G A zs ([oM (am 0) [.int th, .int (nI n), .int (nI room), .int (nI Sx), .int (nI Kx), .int (nI rs.length), .ref (am 1), .ref (am 2), .ref (am 3), .ref (am 4), .ref (am 5), .ref (am 6), .ref (am 7), .ref (am 8), .int (nI pm.length), .int (nI E.length), .int (nI S.length), .int (nI md), .int (nI ag), .int (nI (deadN S S.length)), .int (anF ov), .int bw, .ref (am 9), .ref (am 10), .ref (am 11), .ref (am 12), .ref (am 13), .ref (am 14), .ref (am 15), .ref (am 16), .ref (am 17), .ref (am 18), zv 0, zv 1], aI G (am 1) 40 (fa 1), aI G (am 2) 40 (fa 2), aI G (am 3) 40 (fa 3), aI G (am 4) 40 (fa 4), aI G (am 5) 160 (fa 5), aI G (am 6) 160 (fa 6), aZ G (am 7) 64 (fa 7), aI G (am 8) 96 (fa 8), aI G (am 9) 98304 (fa 9), aI G (am 10) 8192 (fa 10), aI G (am 11) 8192 (fa 11), aI G (am 12) 8192 (fa 12), aI G (am 13) 8192 (fa 13), aI G (am 14) 8192 (fa 14), aI G (am 15) 8192 (fa 15), aI G (am 16) 12 (fa 16), aI G (am 17) 12 (fa 17), aI G (am 18) 12 (fa 18)]) H locs := hw1
  refine r_if_eq (tgt := 30) hx hb (by omega) d_M_sends_8 (by decide) (fun c_8 => ?_) (fun c_8 => ?_)
  · skip
    exact absurd c_8 (by decide)
  · skip
    refine lv_iload_n hx hb d_M_sends_11 rfl (lv_at hl 2 rfl) ?_
    refine lv_aload_n hx hb d_M_sends_12 rfl (lv_at hl 0 rfl) ?_
    refine g_M_110 hx hb hts hown hK hw 0 rfl rfl d_M_sends_13 ?_
    refine xS_i (rest := []) (As := [.int (nI ms), .int (nI Kx)]) hx hb hml hown hts hK hA hw k_M_113 (c_M_isOf zl G (nI ms) (nI Kx)) ([]) rfl rfl (fun _ => Nat.le_of_ble_eq_true rfl) rfl rfl hl.1 (Nat.le_of_ble_eq_true rfl) ⟨(by omega), (by omega)⟩ ⟨(by omega), (by omega)⟩ d_M_sends_16 (fun r u H locs hp hw1 => ?_)
    rw [if_pos ⟨nI_pos' (by omega), nI_lt (by omega) (by omega)⟩] at hp
    subst hp
    refine W.cs (cells' := 0) (slots' := 0) rfl rfl ?_
    replace hw : WW G A zs ([oM (am 0) [.int th, .int (nI n), .int (nI room), .int (nI Sx), .int (nI Kx), .int (nI rs.length), .ref (am 1), .ref (am 2), .ref (am 3), .ref (am 4), .ref (am 5), .ref (am 6), .ref (am 7), .ref (am 8), .int (nI pm.length), .int (nI E.length), .int (nI S.length), .int (nI md), .int (nI ag), .int (nI (deadN S S.length)), .int (anF ov), .int bw, .ref (am 9), .ref (am 10), .ref (am 11), .ref (am 12), .ref (am 13), .ref (am 14), .ref (am 15), .ref (am 16), .ref (am 17), .ref (am 18), zv 0, zv 1], aI G (am 1) 40 (fa 1), aI G (am 2) 40 (fa 2), aI G (am 3) 40 (fa 3), aI G (am 4) 40 (fa 4), aI G (am 5) 160 (fa 5), aI G (am 6) 160 (fa 6), aZ G (am 7) 64 (fa 7), aI G (am 8) 96 (fa 8), aI G (am 9) 98304 (fa 9), aI G (am 10) 8192 (fa 10), aI G (am 11) 8192 (fa 11), aI G (am 12) 8192 (fa 12), aI G (am 13) 8192 (fa 13), aI G (am 14) 8192 (fa 14), aI G (am 15) 8192 (fa 15), aI G (am 16) 12 (fa 16), aI G (am 17) 12 (fa 17), aI G (am 18) 12 (fa 18)]) H locs := hw1
    refine r_if_eq (tgt := 30) hx hb (by omega) d_M_sends_19 (by decide) (fun c_19 => ?_) (fun c_19 => ?_)
    · skip
      exact absurd c_19 (by decide)
    · skip
      refine lv_iload_n hx hb d_M_sends_22 rfl (lv_at hl 3 rfl) ?_
      refine lv_iconst (v := nI 2) hx hb d_M_sends_23 rfl ?_
      refine xS_i (rest := []) (As := [.int (nI wh), .int (nI 2)]) hx hb hml hown hts hK hA hw k_M_113 (c_M_isOf zl G (nI wh) (nI 2)) ([]) rfl rfl (fun _ => Nat.le_of_ble_eq_true rfl) rfl rfl hl.1 (Nat.le_of_ble_eq_true rfl) ⟨(by omega), (by omega)⟩ ⟨(by omega), (by omega)⟩ d_M_sends_24 (fun r u H locs hp hw1 => ?_)
      rw [if_pos ⟨nI_pos' (by omega), nI_lt (by omega) (by omega)⟩] at hp
      subst hp
      refine W.cs (cells' := 0) (slots' := 0) rfl rfl ?_
      replace hw : WW G A zs ([oM (am 0) [.int th, .int (nI n), .int (nI room), .int (nI Sx), .int (nI Kx), .int (nI rs.length), .ref (am 1), .ref (am 2), .ref (am 3), .ref (am 4), .ref (am 5), .ref (am 6), .ref (am 7), .ref (am 8), .int (nI pm.length), .int (nI E.length), .int (nI S.length), .int (nI md), .int (nI ag), .int (nI (deadN S S.length)), .int (anF ov), .int bw, .ref (am 9), .ref (am 10), .ref (am 11), .ref (am 12), .ref (am 13), .ref (am 14), .ref (am 15), .ref (am 16), .ref (am 17), .ref (am 18), zv 0, zv 1], aI G (am 1) 40 (fa 1), aI G (am 2) 40 (fa 2), aI G (am 3) 40 (fa 3), aI G (am 4) 40 (fa 4), aI G (am 5) 160 (fa 5), aI G (am 6) 160 (fa 6), aZ G (am 7) 64 (fa 7), aI G (am 8) 96 (fa 8), aI G (am 9) 98304 (fa 9), aI G (am 10) 8192 (fa 10), aI G (am 11) 8192 (fa 11), aI G (am 12) 8192 (fa 12), aI G (am 13) 8192 (fa 13), aI G (am 14) 8192 (fa 14), aI G (am 15) 8192 (fa 15), aI G (am 16) 12 (fa 16), aI G (am 17) 12 (fa 17), aI G (am 18) 12 (fa 18)]) H locs := hw1
      refine r_if_ne (tgt := 34) hx hb (by omega) d_M_sends_27 (by decide) (fun c_27 => ?_) (fun c_27 => ?_)
      · skip
        refine lv_iconst (v := nI 0) hx hb d_M_sends_34 rfl ?_
        refine lv_istore (lv' := [(4, .int (nI 0)), (0, .ref (am 0)), (1, .int (nI i)), (2, .int (nI ms)), (3, .int (nI wh))]) hx hb d_M_sends_35 hl (by decide) rfl (fun ls hl => ?_)
        refine lv_aload_n hx hb d_M_sends_37 rfl (lv_at hl 1 rfl) ?_
        refine lv_iload hx hb d_M_sends_38 (lv_at hl 0 rfl) ?_
        refine r_if_ne (tgt := 57) hx hb (by omega) d_M_sends_40 (by decide) (fun c_40 => ?_) (fun c_40 => ?_)
        · skip
          exfalso; omega
        · skip
          refine lv_iload_n hx hb d_M_sends_43 rfl (lv_at hl 4 rfl) ?_
          refine r_if_ne (tgt := 61) hx hb (by omega) d_M_sends_44 (by decide) (fun c_44 => ?_) (fun c_44 => ?_)
          · skip
            refine lv_iconst (v := nI 0) hx hb d_M_sends_61 rfl ?_
            refine lv_iload hx hb d_M_sends_62 (lv_at hl 0 rfl) ?_
            refine r_if_ne (tgt := 81) hx hb (by omega) d_M_sends_64 (by decide) (fun c_64 => ?_) (fun c_64 => ?_)
            · skip
              exfalso; omega
            · skip
              refine lv_aload_n hx hb d_M_sends_67 rfl (lv_at hl 1 rfl) ?_
              refine g_M_23 hx hb hts hown hK hw 0 rfl rfl d_M_sends_68 ?_
              refine lv_iload_n hx hb d_M_sends_71 rfl (lv_at hl 2 rfl) ?_
              refine r_iald hx hb hK hw 4 rfl (by omega) (by omega) d_M_sends_72 ?_
              refine r_eq (show (fa 4) i = nI ((rs.getD i rD).2.2.2.length) from hrl1.2.2.2.1) ?_
              refine lv_iconst (v := nI 4) hx hb d_M_sends_73 rfl ?_
              refine r_icmp_ne (tgt := 81) hx hb (by omega) (by omega) d_M_sends_74 (by decide) (fun c_74 => ?_) (fun c_74 => ?_)
              · skip
                refine lv_iconst (v := nI 0) hx hb d_M_sends_81 rfl ?_
                refine xV_i (rest := []) (As := [.int (nI 0), .int (nI 0)]) hx hb hml hown hts hK hA hw k_M_103 (c_M_throwing zl G (am 0) th (nI 0) (nI 0) (.int (nI n)) (.int (nI room)) (.int (nI Sx)) (.int (nI Kx)) (.int (nI rs.length)) (.ref (am 1)) (.ref (am 2)) (.ref (am 3)) (.ref (am 4)) (.ref (am 5)) (.ref (am 6)) (.ref (am 7)) (.ref (am 8)) (.int (nI pm.length)) (.int (nI E.length)) (.int (nI S.length)) (.int (nI md)) (.int (nI ag)) (.int (nI (deadN S S.length))) (.int (anF ov)) (.int bw) (.ref (am 9)) (.ref (am 10)) (.ref (am 11)) (.ref (am 12)) (.ref (am 13)) (.ref (am 14)) (.ref (am 15)) (.ref (am 16)) (.ref (am 17)) (.ref (am 18)) (zv 0) (zv 1)) ([0]) rfl rfl (fun _ => Nat.le_of_ble_eq_true rfl) 0 rfl rfl rfl rfl hl.1 (Nat.le_of_ble_eq_true rfl) ⟨(by omega), (by omega)⟩ ⟨(by omega), (by omega)⟩ d_M_sends_82 (fun r u3 H locs hp hw1 => ?_)
                obtain ⟨rfl, rfl⟩ := hp
                refine W.cs (cells' := 0) (slots' := 0) rfl rfl ?_
                replace hw : WW G A zs ([oM (am 0) [.int (nI 0), .int (nI n), .int (nI room), .int (nI Sx), .int (nI Kx), .int (nI rs.length), .ref (am 1), .ref (am 2), .ref (am 3), .ref (am 4), .ref (am 5), .ref (am 6), .ref (am 7), .ref (am 8), .int (nI pm.length), .int (nI E.length), .int (nI S.length), .int (nI md), .int (nI ag), .int (nI (deadN S S.length)), .int (anF ov), .int bw, .ref (am 9), .ref (am 10), .ref (am 11), .ref (am 12), .ref (am 13), .ref (am 14), .ref (am 15), .ref (am 16), .ref (am 17), .ref (am 18), zv 0, zv 1], aI G (am 1) 40 (fa 1), aI G (am 2) 40 (fa 2), aI G (am 3) 40 (fa 3), aI G (am 4) 40 (fa 4), aI G (am 5) 160 (fa 5), aI G (am 6) 160 (fa 6), aZ G (am 7) 64 (fa 7), aI G (am 8) 96 (fa 8), aI G (am 9) 98304 (fa 9), aI G (am 10) 8192 (fa 10), aI G (am 11) 8192 (fa 11), aI G (am 12) 8192 (fa 12), aI G (am 13) 8192 (fa 13), aI G (am 14) 8192 (fa 14), aI G (am 15) 8192 (fa 15), aI G (am 16) 12 (fa 16), aI G (am 17) 12 (fa 17), aI G (am 18) 12 (fa 18)]) H locs := hw1
                refine r_if_eq (tgt := 90) hx hb (by omega) d_M_sends_85 (by decide) (fun c_85 => ?_) (fun c_85 => ?_)
                · skip
                  refine lv_aload_n hx hb d_M_sends_90 rfl (lv_at hl 1 rfl) ?_
                  refine xV_v (rest := []) (As := []) hx hb hml hown hts hK hA hw k_M_107 (c_M_forget zl G (am 0) _ _ _ _ _ _ _ _ _ _ _ _ _ _ _ _ _ _ _ _ _ _ _ _ _ _ _ _ _ _ _ _ _ _) ([0]) rfl rfl (fun _ => Nat.le_of_ble_eq_true rfl) 0 rfl rfl rfl rfl hl.1 (Nat.le_of_ble_eq_true rfl) ⟨(by omega), (by omega)⟩ ⟨(by omega), (by omega)⟩ d_M_sends_91 (fun _ u H locs hp hw1 => ?_)
                  refine W.cs (cells' := 0) (slots' := 0) rfl rfl ?_
                  replace hw : WW G A zs ([oM (am 0) [.int (nI 0), .int (nI n), .int (nI room), .int (nI Sx), .int (nI Kx), .int (nI rs.length), .ref (am 1), .ref (am 2), .ref (am 3), .ref (am 4), .ref (am 5), .ref (am 6), .ref (am 7), .ref (am 8), .int (nI pm.length), .int (nI 0), .int (nI 0), .int (nI 0), .int (nI 0), .int (nI 0), .int (nI 0), .int (-1), .ref (am 9), .ref (am 10), .ref (am 11), .ref (am 12), .ref (am 13), .ref (am 14), .ref (am 15), .ref (am 16), .ref (am 17), .ref (am 18), zv 0, zv 1], aI G (am 1) 40 (fa 1), aI G (am 2) 40 (fa 2), aI G (am 3) 40 (fa 3), aI G (am 4) 40 (fa 4), aI G (am 5) 160 (fa 5), aI G (am 6) 160 (fa 6), aZ G (am 7) 64 (fa 7), aI G (am 8) 96 (fa 8), aI G (am 9) 98304 (fa 9), aI G (am 10) 8192 (fa 10), aI G (am 11) 8192 (fa 11), aI G (am 12) 8192 (fa 12), aI G (am 13) 8192 (fa 13), aI G (am 14) 8192 (fa 14), aI G (am 15) 8192 (fa 15), aI G (am 16) 12 (fa 16), aI G (am 17) 12 (fa 17), aI G (am 18) 12 (fa 18)]) H locs := hw1
                  refine lv_aload_n hx hb d_M_sends_94 rfl (lv_at hl 1 rfl) ?_
                  refine g_M_26 hx hb hts hown hK hw 0 rfl rfl d_M_sends_95 ?_
                  refine lv_iconst (v := nI 4) hx hb d_M_sends_98 rfl ?_
                  refine lv_iload_n hx hb d_M_sends_99 rfl (lv_at hl 2 rfl) ?_
                  refine r_imulN hx hb d_M_sends_100 ?_
                  refine lv_aload_n hx hb d_M_sends_101 rfl (lv_at hl 1 rfl) ?_
                  refine g_M_23 hx hb hts hown hK hw 0 rfl rfl d_M_sends_102 ?_
                  refine lv_iload_n hx hb d_M_sends_105 rfl (lv_at hl 2 rfl) ?_
                  refine r_iald hx hb hK hw 4 rfl (by omega) (by omega) d_M_sends_106 ?_
                  refine r_eq (show (fa 4) i = nI ((rs.getD i rD).2.2.2.length) from hrl1.2.2.2.1) ?_
                  refine r_iaddN hx hb d_M_sends_107 ?_
                  refine lv_iload_n hx hb d_M_sends_108 rfl (lv_at hl 3 rfl) ?_
                  refine r_iast hx hb hK hw 5 rfl (by omega) (by omega) d_M_sends_109 (fun H locs hw1 => ?_)
                  replace hw : WW G A zs ([oM (am 0) [.int (nI 0), .int (nI n), .int (nI room), .int (nI Sx), .int (nI Kx), .int (nI rs.length), .ref (am 1), .ref (am 2), .ref (am 3), .ref (am 4), .ref (am 5), .ref (am 6), .ref (am 7), .ref (am 8), .int (nI pm.length), .int (nI 0), .int (nI 0), .int (nI 0), .int (nI 0), .int (nI 0), .int (nI 0), .int (-1), .ref (am 9), .ref (am 10), .ref (am 11), .ref (am 12), .ref (am 13), .ref (am 14), .ref (am 15), .ref (am 16), .ref (am 17), .ref (am 18), zv 0, zv 1], aI G (am 1) 40 (fa 1), aI G (am 2) 40 (fa 2), aI G (am 3) 40 (fa 3), aI G (am 4) 40 (fa 4), aI G (am 5) 160 (upd (fa 5) ((4 * i) + ((rs.getD i rD).2.2.2.length)) (nI ms)), aI G (am 6) 160 (fa 6), aZ G (am 7) 64 (fa 7), aI G (am 8) 96 (fa 8), aI G (am 9) 98304 (fa 9), aI G (am 10) 8192 (fa 10), aI G (am 11) 8192 (fa 11), aI G (am 12) 8192 (fa 12), aI G (am 13) 8192 (fa 13), aI G (am 14) 8192 (fa 14), aI G (am 15) 8192 (fa 15), aI G (am 16) 12 (fa 16), aI G (am 17) 12 (fa 17), aI G (am 18) 12 (fa 18)]) H locs := hw1
                  refine lv_aload_n hx hb d_M_sends_110 rfl (lv_at hl 1 rfl) ?_
                  refine g_M_29 hx hb hts hown hK hw 0 rfl rfl d_M_sends_111 ?_
                  refine lv_iconst (v := nI 4) hx hb d_M_sends_114 rfl ?_
                  refine lv_iload_n hx hb d_M_sends_115 rfl (lv_at hl 2 rfl) ?_
                  refine r_imulN hx hb d_M_sends_116 ?_
                  refine lv_aload_n hx hb d_M_sends_117 rfl (lv_at hl 1 rfl) ?_
                  refine g_M_23 hx hb hts hown hK hw 0 rfl rfl d_M_sends_118 ?_
                  refine lv_iload_n hx hb d_M_sends_121 rfl (lv_at hl 2 rfl) ?_
                  refine r_iald hx hb hK hw 4 rfl (by omega) (by omega) d_M_sends_122 ?_
                  refine r_eq (show (fa 4) i = nI ((rs.getD i rD).2.2.2.length) from hrl1.2.2.2.1) ?_
                  refine r_iaddN hx hb d_M_sends_123 ?_
                  refine lv_iload_n hx hb d_M_sends_124 rfl (lv_at hl 4 rfl) ?_
                  refine r_iast hx hb hK hw 6 rfl (by omega) (by omega) d_M_sends_125 (fun H locs hw1 => ?_)
                  replace hw : WW G A zs ([oM (am 0) [.int (nI 0), .int (nI n), .int (nI room), .int (nI Sx), .int (nI Kx), .int (nI rs.length), .ref (am 1), .ref (am 2), .ref (am 3), .ref (am 4), .ref (am 5), .ref (am 6), .ref (am 7), .ref (am 8), .int (nI pm.length), .int (nI 0), .int (nI 0), .int (nI 0), .int (nI 0), .int (nI 0), .int (nI 0), .int (-1), .ref (am 9), .ref (am 10), .ref (am 11), .ref (am 12), .ref (am 13), .ref (am 14), .ref (am 15), .ref (am 16), .ref (am 17), .ref (am 18), zv 0, zv 1], aI G (am 1) 40 (fa 1), aI G (am 2) 40 (fa 2), aI G (am 3) 40 (fa 3), aI G (am 4) 40 (fa 4), aI G (am 5) 160 (upd (fa 5) ((4 * i) + ((rs.getD i rD).2.2.2.length)) (nI ms)), aI G (am 6) 160 (upd (fa 6) ((4 * i) + ((rs.getD i rD).2.2.2.length)) (nI wh)), aZ G (am 7) 64 (fa 7), aI G (am 8) 96 (fa 8), aI G (am 9) 98304 (fa 9), aI G (am 10) 8192 (fa 10), aI G (am 11) 8192 (fa 11), aI G (am 12) 8192 (fa 12), aI G (am 13) 8192 (fa 13), aI G (am 14) 8192 (fa 14), aI G (am 15) 8192 (fa 15), aI G (am 16) 12 (fa 16), aI G (am 17) 12 (fa 17), aI G (am 18) 12 (fa 18)]) H locs := hw1
                  refine lv_aload_n hx hb d_M_sends_126 rfl (lv_at hl 1 rfl) ?_
                  refine g_M_23 hx hb hts hown hK hw 0 rfl rfl d_M_sends_127 ?_
                  refine lv_iload_n hx hb d_M_sends_130 rfl (lv_at hl 2 rfl) ?_
                  refine lv_dup2_11 hx hb d_M_sends_131 rfl rfl ?_
                  refine r_iald hx hb hK hw 4 rfl (by omega) (by omega) d_M_sends_132 ?_
                  refine r_eq (show (fa 4) i = nI ((rs.getD i rD).2.2.2.length) from hrl1.2.2.2.1) ?_
                  refine lv_iconst (v := nI 1) hx hb d_M_sends_133 rfl ?_
                  refine r_iaddN hx hb d_M_sends_134 ?_
                  refine r_iast hx hb hK hw 4 rfl (by omega) (by omega) d_M_sends_135 (fun H locs hw1 => ?_)
                  replace hw : WW G A zs ([oM (am 0) [.int (nI 0), .int (nI n), .int (nI room), .int (nI Sx), .int (nI Kx), .int (nI rs.length), .ref (am 1), .ref (am 2), .ref (am 3), .ref (am 4), .ref (am 5), .ref (am 6), .ref (am 7), .ref (am 8), .int (nI pm.length), .int (nI 0), .int (nI 0), .int (nI 0), .int (nI 0), .int (nI 0), .int (nI 0), .int (-1), .ref (am 9), .ref (am 10), .ref (am 11), .ref (am 12), .ref (am 13), .ref (am 14), .ref (am 15), .ref (am 16), .ref (am 17), .ref (am 18), zv 0, zv 1], aI G (am 1) 40 (fa 1), aI G (am 2) 40 (fa 2), aI G (am 3) 40 (fa 3), aI G (am 4) 40 (upd (fa 4) i (nI (((rs.getD i rD).2.2.2.length) + 1))), aI G (am 5) 160 (upd (fa 5) ((4 * i) + ((rs.getD i rD).2.2.2.length)) (nI ms)), aI G (am 6) 160 (upd (fa 6) ((4 * i) + ((rs.getD i rD).2.2.2.length)) (nI wh)), aZ G (am 7) 64 (fa 7), aI G (am 8) 96 (fa 8), aI G (am 9) 98304 (fa 9), aI G (am 10) 8192 (fa 10), aI G (am 11) 8192 (fa 11), aI G (am 12) 8192 (fa 12), aI G (am 13) 8192 (fa 13), aI G (am 14) 8192 (fa 14), aI G (am 15) 8192 (fa 15), aI G (am 16) 12 (fa 16), aI G (am 17) 12 (fa 17), aI G (am 18) 12 (fa 18)]) H locs := hw1
                  refine lv_aload_n hx hb d_M_sends_136 rfl (lv_at hl 1 rfl) ?_
                  refine g_M_23 hx hb hts hown hK hw 0 rfl rfl d_M_sends_137 ?_
                  refine lv_iload_n hx hb d_M_sends_140 rfl (lv_at hl 2 rfl) ?_
                  refine r_iald hx hb hK hw 4 rfl (by omega) (by omega) d_M_sends_141 ?_
                  refine r_eq (show (upd (fa 4) i (nI (((rs.getD i rD).2.2.2.length) + 1))) i = nI ((rs.getD i rD).2.2.2.length + 1) from by rw [upd, if_pos rfl]) ?_
                  replace hw : WW G A zs ([oM (am 0) [.int (nI 0), .int (nI n), .int (nI room), .int (nI Sx), .int (nI Kx), .int (nI ((rs.set i ((rs.getD i rD).1, (rs.getD i rD).2.1, (rs.getD i rD).2.2.1, (rs.getD i rD).2.2.2 ++ [(ms, wh)])).length)), .ref (am 1), .ref (am 2), .ref (am 3), .ref (am 4), .ref (am 5), .ref (am 6), .ref (am 7), .ref (am 8), .int (nI pm.length), .int (nI (([] : List Ent).length)), .int (nI (([] : List Nat).length)), .int (nI 0), .int (nI 0), .int (nI (deadN ([] : List Nat) ([] : List Nat).length)), .int (anF 0), .int (-1), .ref (am 9), .ref (am 10), .ref (am 11), .ref (am 12), .ref (am 13), .ref (am 14), .ref (am 15), .ref (am 16), .ref (am 17), .ref (am 18), zv 0, zv 1], aI G (am 1) 40 ((va_up (va_up (va_up fa 5 (upd (fa 5) (4 * i + (rs.getD i rD).2.2.2.length) (nI ms))) 6 (upd (fa 6) (4 * i + (rs.getD i rD).2.2.2.length) (nI wh))) 4 (upd (fa 4) i (nI ((rs.getD i rD).2.2.2.length + 1)))) 1), aI G (am 2) 40 ((va_up (va_up (va_up fa 5 (upd (fa 5) (4 * i + (rs.getD i rD).2.2.2.length) (nI ms))) 6 (upd (fa 6) (4 * i + (rs.getD i rD).2.2.2.length) (nI wh))) 4 (upd (fa 4) i (nI ((rs.getD i rD).2.2.2.length + 1)))) 2), aI G (am 3) 40 ((va_up (va_up (va_up fa 5 (upd (fa 5) (4 * i + (rs.getD i rD).2.2.2.length) (nI ms))) 6 (upd (fa 6) (4 * i + (rs.getD i rD).2.2.2.length) (nI wh))) 4 (upd (fa 4) i (nI ((rs.getD i rD).2.2.2.length + 1)))) 3), aI G (am 4) 40 ((va_up (va_up (va_up fa 5 (upd (fa 5) (4 * i + (rs.getD i rD).2.2.2.length) (nI ms))) 6 (upd (fa 6) (4 * i + (rs.getD i rD).2.2.2.length) (nI wh))) 4 (upd (fa 4) i (nI ((rs.getD i rD).2.2.2.length + 1)))) 4), aI G (am 5) 160 ((va_up (va_up (va_up fa 5 (upd (fa 5) (4 * i + (rs.getD i rD).2.2.2.length) (nI ms))) 6 (upd (fa 6) (4 * i + (rs.getD i rD).2.2.2.length) (nI wh))) 4 (upd (fa 4) i (nI ((rs.getD i rD).2.2.2.length + 1)))) 5), aI G (am 6) 160 ((va_up (va_up (va_up fa 5 (upd (fa 5) (4 * i + (rs.getD i rD).2.2.2.length) (nI ms))) 6 (upd (fa 6) (4 * i + (rs.getD i rD).2.2.2.length) (nI wh))) 4 (upd (fa 4) i (nI ((rs.getD i rD).2.2.2.length + 1)))) 6), aZ G (am 7) 64 ((va_up (va_up (va_up fa 5 (upd (fa 5) (4 * i + (rs.getD i rD).2.2.2.length) (nI ms))) 6 (upd (fa 6) (4 * i + (rs.getD i rD).2.2.2.length) (nI wh))) 4 (upd (fa 4) i (nI ((rs.getD i rD).2.2.2.length + 1)))) 7), aI G (am 8) 96 ((va_up (va_up (va_up fa 5 (upd (fa 5) (4 * i + (rs.getD i rD).2.2.2.length) (nI ms))) 6 (upd (fa 6) (4 * i + (rs.getD i rD).2.2.2.length) (nI wh))) 4 (upd (fa 4) i (nI ((rs.getD i rD).2.2.2.length + 1)))) 8), aI G (am 9) 98304 ((va_up (va_up (va_up fa 5 (upd (fa 5) (4 * i + (rs.getD i rD).2.2.2.length) (nI ms))) 6 (upd (fa 6) (4 * i + (rs.getD i rD).2.2.2.length) (nI wh))) 4 (upd (fa 4) i (nI ((rs.getD i rD).2.2.2.length + 1)))) 9), aI G (am 10) 8192 ((va_up (va_up (va_up fa 5 (upd (fa 5) (4 * i + (rs.getD i rD).2.2.2.length) (nI ms))) 6 (upd (fa 6) (4 * i + (rs.getD i rD).2.2.2.length) (nI wh))) 4 (upd (fa 4) i (nI ((rs.getD i rD).2.2.2.length + 1)))) 10), aI G (am 11) 8192 ((va_up (va_up (va_up fa 5 (upd (fa 5) (4 * i + (rs.getD i rD).2.2.2.length) (nI ms))) 6 (upd (fa 6) (4 * i + (rs.getD i rD).2.2.2.length) (nI wh))) 4 (upd (fa 4) i (nI ((rs.getD i rD).2.2.2.length + 1)))) 11), aI G (am 12) 8192 ((va_up (va_up (va_up fa 5 (upd (fa 5) (4 * i + (rs.getD i rD).2.2.2.length) (nI ms))) 6 (upd (fa 6) (4 * i + (rs.getD i rD).2.2.2.length) (nI wh))) 4 (upd (fa 4) i (nI ((rs.getD i rD).2.2.2.length + 1)))) 12), aI G (am 13) 8192 ((va_up (va_up (va_up fa 5 (upd (fa 5) (4 * i + (rs.getD i rD).2.2.2.length) (nI ms))) 6 (upd (fa 6) (4 * i + (rs.getD i rD).2.2.2.length) (nI wh))) 4 (upd (fa 4) i (nI ((rs.getD i rD).2.2.2.length + 1)))) 13), aI G (am 14) 8192 ((va_up (va_up (va_up fa 5 (upd (fa 5) (4 * i + (rs.getD i rD).2.2.2.length) (nI ms))) 6 (upd (fa 6) (4 * i + (rs.getD i rD).2.2.2.length) (nI wh))) 4 (upd (fa 4) i (nI ((rs.getD i rD).2.2.2.length + 1)))) 14), aI G (am 15) 8192 ((va_up (va_up (va_up fa 5 (upd (fa 5) (4 * i + (rs.getD i rD).2.2.2.length) (nI ms))) 6 (upd (fa 6) (4 * i + (rs.getD i rD).2.2.2.length) (nI wh))) 4 (upd (fa 4) i (nI ((rs.getD i rD).2.2.2.length + 1)))) 15), aI G (am 16) 12 ((va_up (va_up (va_up fa 5 (upd (fa 5) (4 * i + (rs.getD i rD).2.2.2.length) (nI ms))) 6 (upd (fa 6) (4 * i + (rs.getD i rD).2.2.2.length) (nI wh))) 4 (upd (fa 4) i (nI ((rs.getD i rD).2.2.2.length + 1)))) 16), aI G (am 17) 12 ((va_up (va_up (va_up fa 5 (upd (fa 5) (4 * i + (rs.getD i rD).2.2.2.length) (nI ms))) 6 (upd (fa 6) (4 * i + (rs.getD i rD).2.2.2.length) (nI wh))) 4 (upd (fa 4) i (nI ((rs.getD i rD).2.2.2.length + 1)))) 17), aI G (am 18) 12 ((va_up (va_up (va_up fa 5 (upd (fa 5) (4 * i + (rs.getD i rD).2.2.2.length) (nI ms))) 6 (upd (fa 6) (4 * i + (rs.getD i rD).2.2.2.length) (nI wh))) 4 (upd (fa 4) i (nI ((rs.getD i rD).2.2.2.length + 1)))) 18)]) H locs := by rw [List.length_set]; exact hw
                  exact r_ret hQ (r_iret (va_up (va_up (va_up fa 5 (upd (fa 5) (4 * i + (rs.getD i rD).2.2.2.length) (nI ms))) 6 (upd (fa 6) (4 * i + (rs.getD i rD).2.2.2.length) (nI wh))) 4 (upd (fa 4) i (nI ((rs.getD i rD).2.2.2.length + 1)))) hx hb hr hlk hw (⟨rfl, hMC.kp2 rfl rfl, hrl.send hi (by omega) hwh hs4⟩) (by omega) (by omega) d_M_sends_142)
                · skip
                  exact absurd c_85 (by decide)
              · skip
                exfalso; omega
          · skip
            refine lv_aload_n hx hb d_M_sends_47 rfl (lv_at hl 1 rfl) ?_
            refine g_M_17 hx hb hts hown hK hw 0 rfl rfl d_M_sends_48 ?_
            refine lv_iload_n hx hb d_M_sends_51 rfl (lv_at hl 2 rfl) ?_
            refine r_iald hx hb hK hw 2 rfl (by omega) (by omega) d_M_sends_52 ?_
            refine r_eq (show (fa 2) i = evI (rs.getD i rD).2.1 from hrl1.2.1) ?_
            refine lv_iconst (v := -1) hx hb d_M_sends_53 (by decide) ?_
            refine lv_icmp_ne (tgt := 61) hx hb d_M_sends_54 (by decide) (fun c_54 => ?_) (fun c_54 => ?_)
            · skip
              refine lv_iconst (v := nI 0) hx hb d_M_sends_61 rfl ?_
              refine lv_iload hx hb d_M_sends_62 (lv_at hl 0 rfl) ?_
              refine r_if_ne (tgt := 81) hx hb (by omega) d_M_sends_64 (by decide) (fun c_64 => ?_) (fun c_64 => ?_)
              · skip
                exfalso; omega
              · skip
                refine lv_aload_n hx hb d_M_sends_67 rfl (lv_at hl 1 rfl) ?_
                refine g_M_23 hx hb hts hown hK hw 0 rfl rfl d_M_sends_68 ?_
                refine lv_iload_n hx hb d_M_sends_71 rfl (lv_at hl 2 rfl) ?_
                refine r_iald hx hb hK hw 4 rfl (by omega) (by omega) d_M_sends_72 ?_
                refine r_eq (show (fa 4) i = nI ((rs.getD i rD).2.2.2.length) from hrl1.2.2.2.1) ?_
                refine lv_iconst (v := nI 4) hx hb d_M_sends_73 rfl ?_
                refine r_icmp_ne (tgt := 81) hx hb (by omega) (by omega) d_M_sends_74 (by decide) (fun c_74 => ?_) (fun c_74 => ?_)
                · skip
                  refine lv_iconst (v := nI 0) hx hb d_M_sends_81 rfl ?_
                  refine xV_i (rest := []) (As := [.int (nI 0), .int (nI 0)]) hx hb hml hown hts hK hA hw k_M_103 (c_M_throwing zl G (am 0) th (nI 0) (nI 0) (.int (nI n)) (.int (nI room)) (.int (nI Sx)) (.int (nI Kx)) (.int (nI rs.length)) (.ref (am 1)) (.ref (am 2)) (.ref (am 3)) (.ref (am 4)) (.ref (am 5)) (.ref (am 6)) (.ref (am 7)) (.ref (am 8)) (.int (nI pm.length)) (.int (nI E.length)) (.int (nI S.length)) (.int (nI md)) (.int (nI ag)) (.int (nI (deadN S S.length))) (.int (anF ov)) (.int bw) (.ref (am 9)) (.ref (am 10)) (.ref (am 11)) (.ref (am 12)) (.ref (am 13)) (.ref (am 14)) (.ref (am 15)) (.ref (am 16)) (.ref (am 17)) (.ref (am 18)) (zv 0) (zv 1)) ([0]) rfl rfl (fun _ => Nat.le_of_ble_eq_true rfl) 0 rfl rfl rfl rfl hl.1 (Nat.le_of_ble_eq_true rfl) ⟨(by omega), (by omega)⟩ ⟨(by omega), (by omega)⟩ d_M_sends_82 (fun r u3 H locs hp hw1 => ?_)
                  obtain ⟨rfl, rfl⟩ := hp
                  refine W.cs (cells' := 0) (slots' := 0) rfl rfl ?_
                  replace hw : WW G A zs ([oM (am 0) [.int (nI 0), .int (nI n), .int (nI room), .int (nI Sx), .int (nI Kx), .int (nI rs.length), .ref (am 1), .ref (am 2), .ref (am 3), .ref (am 4), .ref (am 5), .ref (am 6), .ref (am 7), .ref (am 8), .int (nI pm.length), .int (nI E.length), .int (nI S.length), .int (nI md), .int (nI ag), .int (nI (deadN S S.length)), .int (anF ov), .int bw, .ref (am 9), .ref (am 10), .ref (am 11), .ref (am 12), .ref (am 13), .ref (am 14), .ref (am 15), .ref (am 16), .ref (am 17), .ref (am 18), zv 0, zv 1], aI G (am 1) 40 (fa 1), aI G (am 2) 40 (fa 2), aI G (am 3) 40 (fa 3), aI G (am 4) 40 (fa 4), aI G (am 5) 160 (fa 5), aI G (am 6) 160 (fa 6), aZ G (am 7) 64 (fa 7), aI G (am 8) 96 (fa 8), aI G (am 9) 98304 (fa 9), aI G (am 10) 8192 (fa 10), aI G (am 11) 8192 (fa 11), aI G (am 12) 8192 (fa 12), aI G (am 13) 8192 (fa 13), aI G (am 14) 8192 (fa 14), aI G (am 15) 8192 (fa 15), aI G (am 16) 12 (fa 16), aI G (am 17) 12 (fa 17), aI G (am 18) 12 (fa 18)]) H locs := hw1
                  refine r_if_eq (tgt := 90) hx hb (by omega) d_M_sends_85 (by decide) (fun c_85 => ?_) (fun c_85 => ?_)
                  · skip
                    refine lv_aload_n hx hb d_M_sends_90 rfl (lv_at hl 1 rfl) ?_
                    refine xV_v (rest := []) (As := []) hx hb hml hown hts hK hA hw k_M_107 (c_M_forget zl G (am 0) _ _ _ _ _ _ _ _ _ _ _ _ _ _ _ _ _ _ _ _ _ _ _ _ _ _ _ _ _ _ _ _ _ _) ([0]) rfl rfl (fun _ => Nat.le_of_ble_eq_true rfl) 0 rfl rfl rfl rfl hl.1 (Nat.le_of_ble_eq_true rfl) ⟨(by omega), (by omega)⟩ ⟨(by omega), (by omega)⟩ d_M_sends_91 (fun _ u H locs hp hw1 => ?_)
                    refine W.cs (cells' := 0) (slots' := 0) rfl rfl ?_
                    replace hw : WW G A zs ([oM (am 0) [.int (nI 0), .int (nI n), .int (nI room), .int (nI Sx), .int (nI Kx), .int (nI rs.length), .ref (am 1), .ref (am 2), .ref (am 3), .ref (am 4), .ref (am 5), .ref (am 6), .ref (am 7), .ref (am 8), .int (nI pm.length), .int (nI 0), .int (nI 0), .int (nI 0), .int (nI 0), .int (nI 0), .int (nI 0), .int (-1), .ref (am 9), .ref (am 10), .ref (am 11), .ref (am 12), .ref (am 13), .ref (am 14), .ref (am 15), .ref (am 16), .ref (am 17), .ref (am 18), zv 0, zv 1], aI G (am 1) 40 (fa 1), aI G (am 2) 40 (fa 2), aI G (am 3) 40 (fa 3), aI G (am 4) 40 (fa 4), aI G (am 5) 160 (fa 5), aI G (am 6) 160 (fa 6), aZ G (am 7) 64 (fa 7), aI G (am 8) 96 (fa 8), aI G (am 9) 98304 (fa 9), aI G (am 10) 8192 (fa 10), aI G (am 11) 8192 (fa 11), aI G (am 12) 8192 (fa 12), aI G (am 13) 8192 (fa 13), aI G (am 14) 8192 (fa 14), aI G (am 15) 8192 (fa 15), aI G (am 16) 12 (fa 16), aI G (am 17) 12 (fa 17), aI G (am 18) 12 (fa 18)]) H locs := hw1
                    refine lv_aload_n hx hb d_M_sends_94 rfl (lv_at hl 1 rfl) ?_
                    refine g_M_26 hx hb hts hown hK hw 0 rfl rfl d_M_sends_95 ?_
                    refine lv_iconst (v := nI 4) hx hb d_M_sends_98 rfl ?_
                    refine lv_iload_n hx hb d_M_sends_99 rfl (lv_at hl 2 rfl) ?_
                    refine r_imulN hx hb d_M_sends_100 ?_
                    refine lv_aload_n hx hb d_M_sends_101 rfl (lv_at hl 1 rfl) ?_
                    refine g_M_23 hx hb hts hown hK hw 0 rfl rfl d_M_sends_102 ?_
                    refine lv_iload_n hx hb d_M_sends_105 rfl (lv_at hl 2 rfl) ?_
                    refine r_iald hx hb hK hw 4 rfl (by omega) (by omega) d_M_sends_106 ?_
                    refine r_eq (show (fa 4) i = nI ((rs.getD i rD).2.2.2.length) from hrl1.2.2.2.1) ?_
                    refine r_iaddN hx hb d_M_sends_107 ?_
                    refine lv_iload_n hx hb d_M_sends_108 rfl (lv_at hl 3 rfl) ?_
                    refine r_iast hx hb hK hw 5 rfl (by omega) (by omega) d_M_sends_109 (fun H locs hw1 => ?_)
                    replace hw : WW G A zs ([oM (am 0) [.int (nI 0), .int (nI n), .int (nI room), .int (nI Sx), .int (nI Kx), .int (nI rs.length), .ref (am 1), .ref (am 2), .ref (am 3), .ref (am 4), .ref (am 5), .ref (am 6), .ref (am 7), .ref (am 8), .int (nI pm.length), .int (nI 0), .int (nI 0), .int (nI 0), .int (nI 0), .int (nI 0), .int (nI 0), .int (-1), .ref (am 9), .ref (am 10), .ref (am 11), .ref (am 12), .ref (am 13), .ref (am 14), .ref (am 15), .ref (am 16), .ref (am 17), .ref (am 18), zv 0, zv 1], aI G (am 1) 40 (fa 1), aI G (am 2) 40 (fa 2), aI G (am 3) 40 (fa 3), aI G (am 4) 40 (fa 4), aI G (am 5) 160 (upd (fa 5) ((4 * i) + ((rs.getD i rD).2.2.2.length)) (nI ms)), aI G (am 6) 160 (fa 6), aZ G (am 7) 64 (fa 7), aI G (am 8) 96 (fa 8), aI G (am 9) 98304 (fa 9), aI G (am 10) 8192 (fa 10), aI G (am 11) 8192 (fa 11), aI G (am 12) 8192 (fa 12), aI G (am 13) 8192 (fa 13), aI G (am 14) 8192 (fa 14), aI G (am 15) 8192 (fa 15), aI G (am 16) 12 (fa 16), aI G (am 17) 12 (fa 17), aI G (am 18) 12 (fa 18)]) H locs := hw1
                    refine lv_aload_n hx hb d_M_sends_110 rfl (lv_at hl 1 rfl) ?_
                    refine g_M_29 hx hb hts hown hK hw 0 rfl rfl d_M_sends_111 ?_
                    refine lv_iconst (v := nI 4) hx hb d_M_sends_114 rfl ?_
                    refine lv_iload_n hx hb d_M_sends_115 rfl (lv_at hl 2 rfl) ?_
                    refine r_imulN hx hb d_M_sends_116 ?_
                    refine lv_aload_n hx hb d_M_sends_117 rfl (lv_at hl 1 rfl) ?_
                    refine g_M_23 hx hb hts hown hK hw 0 rfl rfl d_M_sends_118 ?_
                    refine lv_iload_n hx hb d_M_sends_121 rfl (lv_at hl 2 rfl) ?_
                    refine r_iald hx hb hK hw 4 rfl (by omega) (by omega) d_M_sends_122 ?_
                    refine r_eq (show (fa 4) i = nI ((rs.getD i rD).2.2.2.length) from hrl1.2.2.2.1) ?_
                    refine r_iaddN hx hb d_M_sends_123 ?_
                    refine lv_iload_n hx hb d_M_sends_124 rfl (lv_at hl 4 rfl) ?_
                    refine r_iast hx hb hK hw 6 rfl (by omega) (by omega) d_M_sends_125 (fun H locs hw1 => ?_)
                    replace hw : WW G A zs ([oM (am 0) [.int (nI 0), .int (nI n), .int (nI room), .int (nI Sx), .int (nI Kx), .int (nI rs.length), .ref (am 1), .ref (am 2), .ref (am 3), .ref (am 4), .ref (am 5), .ref (am 6), .ref (am 7), .ref (am 8), .int (nI pm.length), .int (nI 0), .int (nI 0), .int (nI 0), .int (nI 0), .int (nI 0), .int (nI 0), .int (-1), .ref (am 9), .ref (am 10), .ref (am 11), .ref (am 12), .ref (am 13), .ref (am 14), .ref (am 15), .ref (am 16), .ref (am 17), .ref (am 18), zv 0, zv 1], aI G (am 1) 40 (fa 1), aI G (am 2) 40 (fa 2), aI G (am 3) 40 (fa 3), aI G (am 4) 40 (fa 4), aI G (am 5) 160 (upd (fa 5) ((4 * i) + ((rs.getD i rD).2.2.2.length)) (nI ms)), aI G (am 6) 160 (upd (fa 6) ((4 * i) + ((rs.getD i rD).2.2.2.length)) (nI wh)), aZ G (am 7) 64 (fa 7), aI G (am 8) 96 (fa 8), aI G (am 9) 98304 (fa 9), aI G (am 10) 8192 (fa 10), aI G (am 11) 8192 (fa 11), aI G (am 12) 8192 (fa 12), aI G (am 13) 8192 (fa 13), aI G (am 14) 8192 (fa 14), aI G (am 15) 8192 (fa 15), aI G (am 16) 12 (fa 16), aI G (am 17) 12 (fa 17), aI G (am 18) 12 (fa 18)]) H locs := hw1
                    refine lv_aload_n hx hb d_M_sends_126 rfl (lv_at hl 1 rfl) ?_
                    refine g_M_23 hx hb hts hown hK hw 0 rfl rfl d_M_sends_127 ?_
                    refine lv_iload_n hx hb d_M_sends_130 rfl (lv_at hl 2 rfl) ?_
                    refine lv_dup2_11 hx hb d_M_sends_131 rfl rfl ?_
                    refine r_iald hx hb hK hw 4 rfl (by omega) (by omega) d_M_sends_132 ?_
                    refine r_eq (show (fa 4) i = nI ((rs.getD i rD).2.2.2.length) from hrl1.2.2.2.1) ?_
                    refine lv_iconst (v := nI 1) hx hb d_M_sends_133 rfl ?_
                    refine r_iaddN hx hb d_M_sends_134 ?_
                    refine r_iast hx hb hK hw 4 rfl (by omega) (by omega) d_M_sends_135 (fun H locs hw1 => ?_)
                    replace hw : WW G A zs ([oM (am 0) [.int (nI 0), .int (nI n), .int (nI room), .int (nI Sx), .int (nI Kx), .int (nI rs.length), .ref (am 1), .ref (am 2), .ref (am 3), .ref (am 4), .ref (am 5), .ref (am 6), .ref (am 7), .ref (am 8), .int (nI pm.length), .int (nI 0), .int (nI 0), .int (nI 0), .int (nI 0), .int (nI 0), .int (nI 0), .int (-1), .ref (am 9), .ref (am 10), .ref (am 11), .ref (am 12), .ref (am 13), .ref (am 14), .ref (am 15), .ref (am 16), .ref (am 17), .ref (am 18), zv 0, zv 1], aI G (am 1) 40 (fa 1), aI G (am 2) 40 (fa 2), aI G (am 3) 40 (fa 3), aI G (am 4) 40 (upd (fa 4) i (nI (((rs.getD i rD).2.2.2.length) + 1))), aI G (am 5) 160 (upd (fa 5) ((4 * i) + ((rs.getD i rD).2.2.2.length)) (nI ms)), aI G (am 6) 160 (upd (fa 6) ((4 * i) + ((rs.getD i rD).2.2.2.length)) (nI wh)), aZ G (am 7) 64 (fa 7), aI G (am 8) 96 (fa 8), aI G (am 9) 98304 (fa 9), aI G (am 10) 8192 (fa 10), aI G (am 11) 8192 (fa 11), aI G (am 12) 8192 (fa 12), aI G (am 13) 8192 (fa 13), aI G (am 14) 8192 (fa 14), aI G (am 15) 8192 (fa 15), aI G (am 16) 12 (fa 16), aI G (am 17) 12 (fa 17), aI G (am 18) 12 (fa 18)]) H locs := hw1
                    refine lv_aload_n hx hb d_M_sends_136 rfl (lv_at hl 1 rfl) ?_
                    refine g_M_23 hx hb hts hown hK hw 0 rfl rfl d_M_sends_137 ?_
                    refine lv_iload_n hx hb d_M_sends_140 rfl (lv_at hl 2 rfl) ?_
                    refine r_iald hx hb hK hw 4 rfl (by omega) (by omega) d_M_sends_141 ?_
                    refine r_eq (show (upd (fa 4) i (nI (((rs.getD i rD).2.2.2.length) + 1))) i = nI ((rs.getD i rD).2.2.2.length + 1) from by rw [upd, if_pos rfl]) ?_
                    replace hw : WW G A zs ([oM (am 0) [.int (nI 0), .int (nI n), .int (nI room), .int (nI Sx), .int (nI Kx), .int (nI ((rs.set i ((rs.getD i rD).1, (rs.getD i rD).2.1, (rs.getD i rD).2.2.1, (rs.getD i rD).2.2.2 ++ [(ms, wh)])).length)), .ref (am 1), .ref (am 2), .ref (am 3), .ref (am 4), .ref (am 5), .ref (am 6), .ref (am 7), .ref (am 8), .int (nI pm.length), .int (nI (([] : List Ent).length)), .int (nI (([] : List Nat).length)), .int (nI 0), .int (nI 0), .int (nI (deadN ([] : List Nat) ([] : List Nat).length)), .int (anF 0), .int (-1), .ref (am 9), .ref (am 10), .ref (am 11), .ref (am 12), .ref (am 13), .ref (am 14), .ref (am 15), .ref (am 16), .ref (am 17), .ref (am 18), zv 0, zv 1], aI G (am 1) 40 ((va_up (va_up (va_up fa 5 (upd (fa 5) (4 * i + (rs.getD i rD).2.2.2.length) (nI ms))) 6 (upd (fa 6) (4 * i + (rs.getD i rD).2.2.2.length) (nI wh))) 4 (upd (fa 4) i (nI ((rs.getD i rD).2.2.2.length + 1)))) 1), aI G (am 2) 40 ((va_up (va_up (va_up fa 5 (upd (fa 5) (4 * i + (rs.getD i rD).2.2.2.length) (nI ms))) 6 (upd (fa 6) (4 * i + (rs.getD i rD).2.2.2.length) (nI wh))) 4 (upd (fa 4) i (nI ((rs.getD i rD).2.2.2.length + 1)))) 2), aI G (am 3) 40 ((va_up (va_up (va_up fa 5 (upd (fa 5) (4 * i + (rs.getD i rD).2.2.2.length) (nI ms))) 6 (upd (fa 6) (4 * i + (rs.getD i rD).2.2.2.length) (nI wh))) 4 (upd (fa 4) i (nI ((rs.getD i rD).2.2.2.length + 1)))) 3), aI G (am 4) 40 ((va_up (va_up (va_up fa 5 (upd (fa 5) (4 * i + (rs.getD i rD).2.2.2.length) (nI ms))) 6 (upd (fa 6) (4 * i + (rs.getD i rD).2.2.2.length) (nI wh))) 4 (upd (fa 4) i (nI ((rs.getD i rD).2.2.2.length + 1)))) 4), aI G (am 5) 160 ((va_up (va_up (va_up fa 5 (upd (fa 5) (4 * i + (rs.getD i rD).2.2.2.length) (nI ms))) 6 (upd (fa 6) (4 * i + (rs.getD i rD).2.2.2.length) (nI wh))) 4 (upd (fa 4) i (nI ((rs.getD i rD).2.2.2.length + 1)))) 5), aI G (am 6) 160 ((va_up (va_up (va_up fa 5 (upd (fa 5) (4 * i + (rs.getD i rD).2.2.2.length) (nI ms))) 6 (upd (fa 6) (4 * i + (rs.getD i rD).2.2.2.length) (nI wh))) 4 (upd (fa 4) i (nI ((rs.getD i rD).2.2.2.length + 1)))) 6), aZ G (am 7) 64 ((va_up (va_up (va_up fa 5 (upd (fa 5) (4 * i + (rs.getD i rD).2.2.2.length) (nI ms))) 6 (upd (fa 6) (4 * i + (rs.getD i rD).2.2.2.length) (nI wh))) 4 (upd (fa 4) i (nI ((rs.getD i rD).2.2.2.length + 1)))) 7), aI G (am 8) 96 ((va_up (va_up (va_up fa 5 (upd (fa 5) (4 * i + (rs.getD i rD).2.2.2.length) (nI ms))) 6 (upd (fa 6) (4 * i + (rs.getD i rD).2.2.2.length) (nI wh))) 4 (upd (fa 4) i (nI ((rs.getD i rD).2.2.2.length + 1)))) 8), aI G (am 9) 98304 ((va_up (va_up (va_up fa 5 (upd (fa 5) (4 * i + (rs.getD i rD).2.2.2.length) (nI ms))) 6 (upd (fa 6) (4 * i + (rs.getD i rD).2.2.2.length) (nI wh))) 4 (upd (fa 4) i (nI ((rs.getD i rD).2.2.2.length + 1)))) 9), aI G (am 10) 8192 ((va_up (va_up (va_up fa 5 (upd (fa 5) (4 * i + (rs.getD i rD).2.2.2.length) (nI ms))) 6 (upd (fa 6) (4 * i + (rs.getD i rD).2.2.2.length) (nI wh))) 4 (upd (fa 4) i (nI ((rs.getD i rD).2.2.2.length + 1)))) 10), aI G (am 11) 8192 ((va_up (va_up (va_up fa 5 (upd (fa 5) (4 * i + (rs.getD i rD).2.2.2.length) (nI ms))) 6 (upd (fa 6) (4 * i + (rs.getD i rD).2.2.2.length) (nI wh))) 4 (upd (fa 4) i (nI ((rs.getD i rD).2.2.2.length + 1)))) 11), aI G (am 12) 8192 ((va_up (va_up (va_up fa 5 (upd (fa 5) (4 * i + (rs.getD i rD).2.2.2.length) (nI ms))) 6 (upd (fa 6) (4 * i + (rs.getD i rD).2.2.2.length) (nI wh))) 4 (upd (fa 4) i (nI ((rs.getD i rD).2.2.2.length + 1)))) 12), aI G (am 13) 8192 ((va_up (va_up (va_up fa 5 (upd (fa 5) (4 * i + (rs.getD i rD).2.2.2.length) (nI ms))) 6 (upd (fa 6) (4 * i + (rs.getD i rD).2.2.2.length) (nI wh))) 4 (upd (fa 4) i (nI ((rs.getD i rD).2.2.2.length + 1)))) 13), aI G (am 14) 8192 ((va_up (va_up (va_up fa 5 (upd (fa 5) (4 * i + (rs.getD i rD).2.2.2.length) (nI ms))) 6 (upd (fa 6) (4 * i + (rs.getD i rD).2.2.2.length) (nI wh))) 4 (upd (fa 4) i (nI ((rs.getD i rD).2.2.2.length + 1)))) 14), aI G (am 15) 8192 ((va_up (va_up (va_up fa 5 (upd (fa 5) (4 * i + (rs.getD i rD).2.2.2.length) (nI ms))) 6 (upd (fa 6) (4 * i + (rs.getD i rD).2.2.2.length) (nI wh))) 4 (upd (fa 4) i (nI ((rs.getD i rD).2.2.2.length + 1)))) 15), aI G (am 16) 12 ((va_up (va_up (va_up fa 5 (upd (fa 5) (4 * i + (rs.getD i rD).2.2.2.length) (nI ms))) 6 (upd (fa 6) (4 * i + (rs.getD i rD).2.2.2.length) (nI wh))) 4 (upd (fa 4) i (nI ((rs.getD i rD).2.2.2.length + 1)))) 16), aI G (am 17) 12 ((va_up (va_up (va_up fa 5 (upd (fa 5) (4 * i + (rs.getD i rD).2.2.2.length) (nI ms))) 6 (upd (fa 6) (4 * i + (rs.getD i rD).2.2.2.length) (nI wh))) 4 (upd (fa 4) i (nI ((rs.getD i rD).2.2.2.length + 1)))) 17), aI G (am 18) 12 ((va_up (va_up (va_up fa 5 (upd (fa 5) (4 * i + (rs.getD i rD).2.2.2.length) (nI ms))) 6 (upd (fa 6) (4 * i + (rs.getD i rD).2.2.2.length) (nI wh))) 4 (upd (fa 4) i (nI ((rs.getD i rD).2.2.2.length + 1)))) 18)]) H locs := by rw [List.length_set]; exact hw
                    exact r_ret hQ (r_iret (va_up (va_up (va_up fa 5 (upd (fa 5) (4 * i + (rs.getD i rD).2.2.2.length) (nI ms))) 6 (upd (fa 6) (4 * i + (rs.getD i rD).2.2.2.length) (nI wh))) 4 (upd (fa 4) i (nI ((rs.getD i rD).2.2.2.length + 1)))) hx hb hr hlk hw (⟨rfl, hMC.kp2 rfl rfl, hrl.send hi (by omega) hwh hs4⟩) (by omega) (by omega) d_M_sends_142)
                  · skip
                    exact absurd c_85 (by decide)
                · skip
                  exfalso; omega
            · skip
              exact absurd c_54 (send_ev hwh (by omega) hro.2.1)
      · skip
        exact absurd c_27 (by decide)
set_option maxHeartbeats 4000000 in
set_option maxRecDepth 100000 in
theorem c_M_sendsX (zl : Launch) (G : GG) (am : Nat → Nat) (fa : Nat → Nat → Int32) (zv : Nat → Value) (th bw : Int32) (n room Sx Kx : Nat) (ps pm : List (List Nat)) (B : Nat → Bool) (rs : List Rl) (E : List Ent) (S : List Nat) (md ag ov : Nat) (x y z : Int32) (hMC : MC n ps pm B fa) (hrl : MRl rs fa) (hbad : ¬ ((0 ≤ x ∧ x < nI rs.length) ∧ (0 ≤ y ∧ y < nI Kx) ∧ (0 ≤ z ∧ z < nI 2))) : Ctr (S := Unit) vI zl y_M_sends b_M_sends 5 (Option.some Jvm.ClassFile.FieldType.int) 1 0 0 G [.ref (am 0), .int x, .int y, .int z] ([oM (am 0) [.int th, .int (nI n), .int (nI room), .int (nI Sx), .int (nI Kx), .int (nI rs.length), .ref (am 1), .ref (am 2), .ref (am 3), .ref (am 4), .ref (am 5), .ref (am 6), .ref (am 7), .ref (am 8), .int (nI pm.length), .int (nI E.length), .int (nI S.length), .int (nI md), .int (nI ag), .int (nI (deadN S S.length)), .int (anF ov), .int bw, .ref (am 9), .ref (am 10), .ref (am 11), .ref (am 12), .ref (am 13), .ref (am 14), .ref (am 15), .ref (am 16), .ref (am 17), .ref (am 18), zv 0, zv 1], aI G (am 1) 40 (fa 1), aI G (am 2) 40 (fa 2), aI G (am 3) 40 (fa 3), aI G (am 4) 40 (fa 4), aI G (am 5) 160 (fa 5), aI G (am 6) 160 (fa 6), aZ G (am 7) 64 (fa 7), aI G (am 8) 96 (fa 8), aI G (am 9) 98304 (fa 9), aI G (am 10) 8192 (fa 10), aI G (am 11) 8192 (fa 11), aI G (am 12) 8192 (fa 12), aI G (am 13) 8192 (fa 13), aI G (am 14) 8192 (fa 14), aI G (am 15) 8192 (fa 15), aI G (am 16) 12 (fa 16), aI G (am 17) 12 (fa 17), aI G (am 18) 12 (fa 18)]) (fun _ _ => True) (fun _ => [oM (am 0) [.int (nI 1), .int (nI n), .int (nI room), .int (nI Sx), .int (nI Kx), .int (nI rs.length), .ref (am 1), .ref (am 2), .ref (am 3), .ref (am 4), .ref (am 5), .ref (am 6), .ref (am 7), .ref (am 8), .int (nI pm.length), .int (nI E.length), .int (nI S.length), .int (nI md), .int (nI ag), .int (nI (deadN S S.length)), .int (anF ov), .int bw, .ref (am 9), .ref (am 10), .ref (am 11), .ref (am 12), .ref (am 13), .ref (am 14), .ref (am 15), .ref (am 16), .ref (am 17), .ref (am 18), zv 0, zv 1], aI G (am 1) 40 (fa 1), aI G (am 2) 40 (fa 2), aI G (am 3) 40 (fa 3), aI G (am 4) 40 (fa 4), aI G (am 5) 160 (fa 5), aI G (am 6) 160 (fa 6), aZ G (am 7) 64 (fa 7), aI G (am 8) 96 (fa 8), aI G (am 9) 98304 (fa 9), aI G (am 10) 8192 (fa 10), aI G (am 11) 8192 (fa 11), aI G (am 12) 8192 (fa 12), aI G (am 13) 8192 (fa 13), aI G (am 14) 8192 (fa 14), aI G (am 15) 8192 (fa 15), aI G (am 16) 12 (fa 16), aI G (am 17) 12 (fa 17), aI G (am 18) 12 (fa 18)]) := by
  refine Ctr.start (by decide) (Nat.le_of_ble_eq_true rfl) ?_
  intro zp ze zs zm below meth zc A ls C0 hin hK hA hl hw
  obtain ⟨hx, hb, hr, hlk, hml, hown, hts⟩ := C0
  obtain ⟨R, hRR⟩ : ∃ R : Room, R = rmL 1 0 0 := ⟨_, rfl⟩
  have hRf : R.frames = 1 := by rw [hRR]
  have hRl : R.locals = 64 * 1 := by rw [hRR]
  have hRc : R.cells = 0 := by rw [hRR]
  have hRs : R.slots = 0 := by rw [hRR]
  rw [← hRR]; clear hRR
  generalize hQ : MQ below _ _ zs _ _ A = Q
  generalize hAr : List.toArray _ = args at hts hQ ⊢
  replace hl : lv_has ls 5 [(0, .ref (am 0)), (1, .int x), (2, .int y), (3, .int z)] := hl
  obtain ⟨H, eH⟩ : ∃ H : Heap, H = zs.heap := ⟨_, rfl⟩
  obtain ⟨locs, eL⟩ : ∃ l0 : List Loc, l0 = [] := ⟨_, rfl⟩
  rw [← eH, ← eL] at hw ⊢; clear eH eL
  have hrll := hrl.1
  refine lv_iload_n hx hb d_M_sends_0 rfl (lv_at hl 1 rfl) ?_
  refine lv_aload_n hx hb d_M_sends_1 rfl (lv_at hl 0 rfl) ?_
  refine g_M_117 hx hb hts hown hK hw 0 rfl rfl d_M_sends_2 ?_
  by_cases ho_5 : 0 ≤ x ∧ x < nI rs.length
  · skip
    refine xS_i (rest := []) (As := [.int x, .int (nI rs.length)]) hx hb hml hown hts hK hA hw k_M_113 (c_M_isOf zl G x (nI rs.length)) ([]) rfl rfl (fun _ => Nat.le_of_ble_eq_true rfl) rfl rfl hl.1 (Nat.le_of_ble_eq_true rfl) ⟨(by omega), (by omega)⟩ ⟨(by omega), (by omega)⟩ d_M_sends_5 (fun r u H locs hp hw1 => ?_)
    rw [if_pos ho_5] at hp
    subst hp
    refine W.cs (cells' := 0) (slots' := 0) rfl rfl ?_
    replace hw : WW G A zs ([oM (am 0) [.int th, .int (nI n), .int (nI room), .int (nI Sx), .int (nI Kx), .int (nI rs.length), .ref (am 1), .ref (am 2), .ref (am 3), .ref (am 4), .ref (am 5), .ref (am 6), .ref (am 7), .ref (am 8), .int (nI pm.length), .int (nI E.length), .int (nI S.length), .int (nI md), .int (nI ag), .int (nI (deadN S S.length)), .int (anF ov), .int bw, .ref (am 9), .ref (am 10), .ref (am 11), .ref (am 12), .ref (am 13), .ref (am 14), .ref (am 15), .ref (am 16), .ref (am 17), .ref (am 18), zv 0, zv 1], aI G (am 1) 40 (fa 1), aI G (am 2) 40 (fa 2), aI G (am 3) 40 (fa 3), aI G (am 4) 40 (fa 4), aI G (am 5) 160 (fa 5), aI G (am 6) 160 (fa 6), aZ G (am 7) 64 (fa 7), aI G (am 8) 96 (fa 8), aI G (am 9) 98304 (fa 9), aI G (am 10) 8192 (fa 10), aI G (am 11) 8192 (fa 11), aI G (am 12) 8192 (fa 12), aI G (am 13) 8192 (fa 13), aI G (am 14) 8192 (fa 14), aI G (am 15) 8192 (fa 15), aI G (am 16) 12 (fa 16), aI G (am 17) 12 (fa 17), aI G (am 18) 12 (fa 18)]) H locs := hw1
    refine r_if_eq (tgt := 30) hx hb (by omega) d_M_sends_8 (by decide) (fun c_8 => ?_) (fun c_8 => ?_)
    · skip
      exact absurd c_8 (by decide)
    · skip
      refine lv_iload_n hx hb d_M_sends_11 rfl (lv_at hl 2 rfl) ?_
      refine lv_aload_n hx hb d_M_sends_12 rfl (lv_at hl 0 rfl) ?_
      refine g_M_110 hx hb hts hown hK hw 0 rfl rfl d_M_sends_13 ?_
      by_cases ho_16 : 0 ≤ y ∧ y < nI Kx
      · skip
        refine xS_i (rest := []) (As := [.int y, .int (nI Kx)]) hx hb hml hown hts hK hA hw k_M_113 (c_M_isOf zl G y (nI Kx)) ([]) rfl rfl (fun _ => Nat.le_of_ble_eq_true rfl) rfl rfl hl.1 (Nat.le_of_ble_eq_true rfl) ⟨(by omega), (by omega)⟩ ⟨(by omega), (by omega)⟩ d_M_sends_16 (fun r u H locs hp hw1 => ?_)
        rw [if_pos ho_16] at hp
        subst hp
        refine W.cs (cells' := 0) (slots' := 0) rfl rfl ?_
        replace hw : WW G A zs ([oM (am 0) [.int th, .int (nI n), .int (nI room), .int (nI Sx), .int (nI Kx), .int (nI rs.length), .ref (am 1), .ref (am 2), .ref (am 3), .ref (am 4), .ref (am 5), .ref (am 6), .ref (am 7), .ref (am 8), .int (nI pm.length), .int (nI E.length), .int (nI S.length), .int (nI md), .int (nI ag), .int (nI (deadN S S.length)), .int (anF ov), .int bw, .ref (am 9), .ref (am 10), .ref (am 11), .ref (am 12), .ref (am 13), .ref (am 14), .ref (am 15), .ref (am 16), .ref (am 17), .ref (am 18), zv 0, zv 1], aI G (am 1) 40 (fa 1), aI G (am 2) 40 (fa 2), aI G (am 3) 40 (fa 3), aI G (am 4) 40 (fa 4), aI G (am 5) 160 (fa 5), aI G (am 6) 160 (fa 6), aZ G (am 7) 64 (fa 7), aI G (am 8) 96 (fa 8), aI G (am 9) 98304 (fa 9), aI G (am 10) 8192 (fa 10), aI G (am 11) 8192 (fa 11), aI G (am 12) 8192 (fa 12), aI G (am 13) 8192 (fa 13), aI G (am 14) 8192 (fa 14), aI G (am 15) 8192 (fa 15), aI G (am 16) 12 (fa 16), aI G (am 17) 12 (fa 17), aI G (am 18) 12 (fa 18)]) H locs := hw1
        refine r_if_eq (tgt := 30) hx hb (by omega) d_M_sends_19 (by decide) (fun c_19 => ?_) (fun c_19 => ?_)
        · skip
          exact absurd c_19 (by decide)
        · skip
          refine lv_iload_n hx hb d_M_sends_22 rfl (lv_at hl 3 rfl) ?_
          refine lv_iconst (v := nI 2) hx hb d_M_sends_23 rfl ?_
          by_cases ho_24 : 0 ≤ z ∧ z < nI 2
          · skip
            refine xS_i (rest := []) (As := [.int z, .int (nI 2)]) hx hb hml hown hts hK hA hw k_M_113 (c_M_isOf zl G z (nI 2)) ([]) rfl rfl (fun _ => Nat.le_of_ble_eq_true rfl) rfl rfl hl.1 (Nat.le_of_ble_eq_true rfl) ⟨(by omega), (by omega)⟩ ⟨(by omega), (by omega)⟩ d_M_sends_24 (fun r u H locs hp hw1 => ?_)
            rw [if_pos ho_24] at hp
            subst hp
            refine W.cs (cells' := 0) (slots' := 0) rfl rfl ?_
            replace hw : WW G A zs ([oM (am 0) [.int th, .int (nI n), .int (nI room), .int (nI Sx), .int (nI Kx), .int (nI rs.length), .ref (am 1), .ref (am 2), .ref (am 3), .ref (am 4), .ref (am 5), .ref (am 6), .ref (am 7), .ref (am 8), .int (nI pm.length), .int (nI E.length), .int (nI S.length), .int (nI md), .int (nI ag), .int (nI (deadN S S.length)), .int (anF ov), .int bw, .ref (am 9), .ref (am 10), .ref (am 11), .ref (am 12), .ref (am 13), .ref (am 14), .ref (am 15), .ref (am 16), .ref (am 17), .ref (am 18), zv 0, zv 1], aI G (am 1) 40 (fa 1), aI G (am 2) 40 (fa 2), aI G (am 3) 40 (fa 3), aI G (am 4) 40 (fa 4), aI G (am 5) 160 (fa 5), aI G (am 6) 160 (fa 6), aZ G (am 7) 64 (fa 7), aI G (am 8) 96 (fa 8), aI G (am 9) 98304 (fa 9), aI G (am 10) 8192 (fa 10), aI G (am 11) 8192 (fa 11), aI G (am 12) 8192 (fa 12), aI G (am 13) 8192 (fa 13), aI G (am 14) 8192 (fa 14), aI G (am 15) 8192 (fa 15), aI G (am 16) 12 (fa 16), aI G (am 17) 12 (fa 17), aI G (am 18) 12 (fa 18)]) H locs := hw1
            refine r_if_ne (tgt := 34) hx hb (by omega) d_M_sends_27 (by decide) (fun c_27 => ?_) (fun c_27 => ?_)
            · skip
              exact absurd ⟨ho_5, ho_16, ho_24⟩ hbad
            · skip
              exact absurd c_27 (by decide)
          · skip
            refine xS_i (rest := []) (As := [.int z, .int (nI 2)]) hx hb hml hown hts hK hA hw k_M_113 (c_M_isOf zl G z (nI 2)) ([]) rfl rfl (fun _ => Nat.le_of_ble_eq_true rfl) rfl rfl hl.1 (Nat.le_of_ble_eq_true rfl) ⟨(by omega), (by omega)⟩ ⟨(by omega), (by omega)⟩ d_M_sends_24 (fun r u H locs hp hw1 => ?_)
            rw [if_neg ho_24] at hp
            subst hp
            refine W.cs (cells' := 0) (slots' := 0) rfl rfl ?_
            replace hw : WW G A zs ([oM (am 0) [.int th, .int (nI n), .int (nI room), .int (nI Sx), .int (nI Kx), .int (nI rs.length), .ref (am 1), .ref (am 2), .ref (am 3), .ref (am 4), .ref (am 5), .ref (am 6), .ref (am 7), .ref (am 8), .int (nI pm.length), .int (nI E.length), .int (nI S.length), .int (nI md), .int (nI ag), .int (nI (deadN S S.length)), .int (anF ov), .int bw, .ref (am 9), .ref (am 10), .ref (am 11), .ref (am 12), .ref (am 13), .ref (am 14), .ref (am 15), .ref (am 16), .ref (am 17), .ref (am 18), zv 0, zv 1], aI G (am 1) 40 (fa 1), aI G (am 2) 40 (fa 2), aI G (am 3) 40 (fa 3), aI G (am 4) 40 (fa 4), aI G (am 5) 160 (fa 5), aI G (am 6) 160 (fa 6), aZ G (am 7) 64 (fa 7), aI G (am 8) 96 (fa 8), aI G (am 9) 98304 (fa 9), aI G (am 10) 8192 (fa 10), aI G (am 11) 8192 (fa 11), aI G (am 12) 8192 (fa 12), aI G (am 13) 8192 (fa 13), aI G (am 14) 8192 (fa 14), aI G (am 15) 8192 (fa 15), aI G (am 16) 12 (fa 16), aI G (am 17) 12 (fa 17), aI G (am 18) 12 (fa 18)]) H locs := hw1
            refine r_if_ne (tgt := 34) hx hb (by omega) d_M_sends_27 (by decide) (fun c_27 => ?_) (fun c_27 => ?_)
            · skip
              exact absurd c_27 (by decide)
            · skip
              refine lv_iconst (v := nI 1) hx hb d_M_sends_30 rfl ?_
              refine lv_goto (tgt := 35) hx hb d_M_sends_31 (by decide) ?_
              refine lv_istore (lv' := [(4, .int (nI 1)), (0, .ref (am 0)), (1, .int x), (2, .int y), (3, .int z)]) hx hb d_M_sends_35 hl (by decide) rfl (fun ls hl => ?_)
              refine lv_aload_n hx hb d_M_sends_37 rfl (lv_at hl 1 rfl) ?_
              refine lv_iload hx hb d_M_sends_38 (lv_at hl 0 rfl) ?_
              refine r_if_ne (tgt := 57) hx hb (by omega) d_M_sends_40 (by decide) (fun c_40 => ?_) (fun c_40 => ?_)
              · skip
                refine lv_iconst (v := nI 1) hx hb d_M_sends_57 rfl ?_
                refine lv_goto (tgt := 62) hx hb d_M_sends_58 (by decide) ?_
                refine lv_iload hx hb d_M_sends_62 (lv_at hl 0 rfl) ?_
                refine r_if_ne (tgt := 81) hx hb (by omega) d_M_sends_64 (by decide) (fun c_64 => ?_) (fun c_64 => ?_)
                · skip
                  refine lv_iconst (v := nI 0) hx hb d_M_sends_81 rfl ?_
                  refine xV_i (rest := []) (As := [.int (nI 1), .int (nI 0)]) hx hb hml hown hts hK hA hw k_M_103 (c_M_throwing zl G (am 0) th (nI 1) (nI 0) (.int (nI n)) (.int (nI room)) (.int (nI Sx)) (.int (nI Kx)) (.int (nI rs.length)) (.ref (am 1)) (.ref (am 2)) (.ref (am 3)) (.ref (am 4)) (.ref (am 5)) (.ref (am 6)) (.ref (am 7)) (.ref (am 8)) (.int (nI pm.length)) (.int (nI E.length)) (.int (nI S.length)) (.int (nI md)) (.int (nI ag)) (.int (nI (deadN S S.length))) (.int (anF ov)) (.int bw) (.ref (am 9)) (.ref (am 10)) (.ref (am 11)) (.ref (am 12)) (.ref (am 13)) (.ref (am 14)) (.ref (am 15)) (.ref (am 16)) (.ref (am 17)) (.ref (am 18)) (zv 0) (zv 1)) ([0]) rfl rfl (fun _ => Nat.le_of_ble_eq_true rfl) 0 rfl rfl rfl rfl hl.1 (Nat.le_of_ble_eq_true rfl) ⟨(by omega), (by omega)⟩ ⟨(by omega), (by omega)⟩ d_M_sends_82 (fun r u3 H locs hp hw1 => ?_)
                  obtain ⟨rfl, rfl⟩ := hp
                  refine W.cs (cells' := 0) (slots' := 0) rfl rfl ?_
                  replace hw : WW G A zs ([oM (am 0) [.int (nI 1), .int (nI n), .int (nI room), .int (nI Sx), .int (nI Kx), .int (nI rs.length), .ref (am 1), .ref (am 2), .ref (am 3), .ref (am 4), .ref (am 5), .ref (am 6), .ref (am 7), .ref (am 8), .int (nI pm.length), .int (nI E.length), .int (nI S.length), .int (nI md), .int (nI ag), .int (nI (deadN S S.length)), .int (anF ov), .int bw, .ref (am 9), .ref (am 10), .ref (am 11), .ref (am 12), .ref (am 13), .ref (am 14), .ref (am 15), .ref (am 16), .ref (am 17), .ref (am 18), zv 0, zv 1], aI G (am 1) 40 (fa 1), aI G (am 2) 40 (fa 2), aI G (am 3) 40 (fa 3), aI G (am 4) 40 (fa 4), aI G (am 5) 160 (fa 5), aI G (am 6) 160 (fa 6), aZ G (am 7) 64 (fa 7), aI G (am 8) 96 (fa 8), aI G (am 9) 98304 (fa 9), aI G (am 10) 8192 (fa 10), aI G (am 11) 8192 (fa 11), aI G (am 12) 8192 (fa 12), aI G (am 13) 8192 (fa 13), aI G (am 14) 8192 (fa 14), aI G (am 15) 8192 (fa 15), aI G (am 16) 12 (fa 16), aI G (am 17) 12 (fa 17), aI G (am 18) 12 (fa 18)]) H locs := hw1
                  refine r_if_eq (tgt := 90) hx hb (by omega) d_M_sends_85 (by decide) (fun c_85 => ?_) (fun c_85 => ?_)
                  · skip
                    exact absurd c_85 (by decide)
                  · skip
                    refine lv_iconst (v := nI 0) hx hb d_M_sends_88 rfl ?_
                    exact r_ret hQ (r_iret () hx hb hr hlk hw trivial (by omega) (by omega) d_M_sends_89)
                · skip
                  exfalso; omega
              · skip
                exfalso; omega
      · skip
        refine xS_i (rest := []) (As := [.int y, .int (nI Kx)]) hx hb hml hown hts hK hA hw k_M_113 (c_M_isOf zl G y (nI Kx)) ([]) rfl rfl (fun _ => Nat.le_of_ble_eq_true rfl) rfl rfl hl.1 (Nat.le_of_ble_eq_true rfl) ⟨(by omega), (by omega)⟩ ⟨(by omega), (by omega)⟩ d_M_sends_16 (fun r u H locs hp hw1 => ?_)
        rw [if_neg ho_16] at hp
        subst hp
        refine W.cs (cells' := 0) (slots' := 0) rfl rfl ?_
        replace hw : WW G A zs ([oM (am 0) [.int th, .int (nI n), .int (nI room), .int (nI Sx), .int (nI Kx), .int (nI rs.length), .ref (am 1), .ref (am 2), .ref (am 3), .ref (am 4), .ref (am 5), .ref (am 6), .ref (am 7), .ref (am 8), .int (nI pm.length), .int (nI E.length), .int (nI S.length), .int (nI md), .int (nI ag), .int (nI (deadN S S.length)), .int (anF ov), .int bw, .ref (am 9), .ref (am 10), .ref (am 11), .ref (am 12), .ref (am 13), .ref (am 14), .ref (am 15), .ref (am 16), .ref (am 17), .ref (am 18), zv 0, zv 1], aI G (am 1) 40 (fa 1), aI G (am 2) 40 (fa 2), aI G (am 3) 40 (fa 3), aI G (am 4) 40 (fa 4), aI G (am 5) 160 (fa 5), aI G (am 6) 160 (fa 6), aZ G (am 7) 64 (fa 7), aI G (am 8) 96 (fa 8), aI G (am 9) 98304 (fa 9), aI G (am 10) 8192 (fa 10), aI G (am 11) 8192 (fa 11), aI G (am 12) 8192 (fa 12), aI G (am 13) 8192 (fa 13), aI G (am 14) 8192 (fa 14), aI G (am 15) 8192 (fa 15), aI G (am 16) 12 (fa 16), aI G (am 17) 12 (fa 17), aI G (am 18) 12 (fa 18)]) H locs := hw1
        refine r_if_eq (tgt := 30) hx hb (by omega) d_M_sends_19 (by decide) (fun c_19 => ?_) (fun c_19 => ?_)
        · skip
          refine lv_iconst (v := nI 1) hx hb d_M_sends_30 rfl ?_
          refine lv_goto (tgt := 35) hx hb d_M_sends_31 (by decide) ?_
          refine lv_istore (lv' := [(4, .int (nI 1)), (0, .ref (am 0)), (1, .int x), (2, .int y), (3, .int z)]) hx hb d_M_sends_35 hl (by decide) rfl (fun ls hl => ?_)
          refine lv_aload_n hx hb d_M_sends_37 rfl (lv_at hl 1 rfl) ?_
          refine lv_iload hx hb d_M_sends_38 (lv_at hl 0 rfl) ?_
          refine r_if_ne (tgt := 57) hx hb (by omega) d_M_sends_40 (by decide) (fun c_40 => ?_) (fun c_40 => ?_)
          · skip
            refine lv_iconst (v := nI 1) hx hb d_M_sends_57 rfl ?_
            refine lv_goto (tgt := 62) hx hb d_M_sends_58 (by decide) ?_
            refine lv_iload hx hb d_M_sends_62 (lv_at hl 0 rfl) ?_
            refine r_if_ne (tgt := 81) hx hb (by omega) d_M_sends_64 (by decide) (fun c_64 => ?_) (fun c_64 => ?_)
            · skip
              refine lv_iconst (v := nI 0) hx hb d_M_sends_81 rfl ?_
              refine xV_i (rest := []) (As := [.int (nI 1), .int (nI 0)]) hx hb hml hown hts hK hA hw k_M_103 (c_M_throwing zl G (am 0) th (nI 1) (nI 0) (.int (nI n)) (.int (nI room)) (.int (nI Sx)) (.int (nI Kx)) (.int (nI rs.length)) (.ref (am 1)) (.ref (am 2)) (.ref (am 3)) (.ref (am 4)) (.ref (am 5)) (.ref (am 6)) (.ref (am 7)) (.ref (am 8)) (.int (nI pm.length)) (.int (nI E.length)) (.int (nI S.length)) (.int (nI md)) (.int (nI ag)) (.int (nI (deadN S S.length))) (.int (anF ov)) (.int bw) (.ref (am 9)) (.ref (am 10)) (.ref (am 11)) (.ref (am 12)) (.ref (am 13)) (.ref (am 14)) (.ref (am 15)) (.ref (am 16)) (.ref (am 17)) (.ref (am 18)) (zv 0) (zv 1)) ([0]) rfl rfl (fun _ => Nat.le_of_ble_eq_true rfl) 0 rfl rfl rfl rfl hl.1 (Nat.le_of_ble_eq_true rfl) ⟨(by omega), (by omega)⟩ ⟨(by omega), (by omega)⟩ d_M_sends_82 (fun r u3 H locs hp hw1 => ?_)
              obtain ⟨rfl, rfl⟩ := hp
              refine W.cs (cells' := 0) (slots' := 0) rfl rfl ?_
              replace hw : WW G A zs ([oM (am 0) [.int (nI 1), .int (nI n), .int (nI room), .int (nI Sx), .int (nI Kx), .int (nI rs.length), .ref (am 1), .ref (am 2), .ref (am 3), .ref (am 4), .ref (am 5), .ref (am 6), .ref (am 7), .ref (am 8), .int (nI pm.length), .int (nI E.length), .int (nI S.length), .int (nI md), .int (nI ag), .int (nI (deadN S S.length)), .int (anF ov), .int bw, .ref (am 9), .ref (am 10), .ref (am 11), .ref (am 12), .ref (am 13), .ref (am 14), .ref (am 15), .ref (am 16), .ref (am 17), .ref (am 18), zv 0, zv 1], aI G (am 1) 40 (fa 1), aI G (am 2) 40 (fa 2), aI G (am 3) 40 (fa 3), aI G (am 4) 40 (fa 4), aI G (am 5) 160 (fa 5), aI G (am 6) 160 (fa 6), aZ G (am 7) 64 (fa 7), aI G (am 8) 96 (fa 8), aI G (am 9) 98304 (fa 9), aI G (am 10) 8192 (fa 10), aI G (am 11) 8192 (fa 11), aI G (am 12) 8192 (fa 12), aI G (am 13) 8192 (fa 13), aI G (am 14) 8192 (fa 14), aI G (am 15) 8192 (fa 15), aI G (am 16) 12 (fa 16), aI G (am 17) 12 (fa 17), aI G (am 18) 12 (fa 18)]) H locs := hw1
              refine r_if_eq (tgt := 90) hx hb (by omega) d_M_sends_85 (by decide) (fun c_85 => ?_) (fun c_85 => ?_)
              · skip
                exact absurd c_85 (by decide)
              · skip
                refine lv_iconst (v := nI 0) hx hb d_M_sends_88 rfl ?_
                exact r_ret hQ (r_iret () hx hb hr hlk hw trivial (by omega) (by omega) d_M_sends_89)
            · skip
              exfalso; omega
          · skip
            exfalso; omega
        · skip
          exact absurd c_19 (by decide)
  · skip
    refine xS_i (rest := []) (As := [.int x, .int (nI rs.length)]) hx hb hml hown hts hK hA hw k_M_113 (c_M_isOf zl G x (nI rs.length)) ([]) rfl rfl (fun _ => Nat.le_of_ble_eq_true rfl) rfl rfl hl.1 (Nat.le_of_ble_eq_true rfl) ⟨(by omega), (by omega)⟩ ⟨(by omega), (by omega)⟩ d_M_sends_5 (fun r u H locs hp hw1 => ?_)
    rw [if_neg ho_5] at hp
    subst hp
    refine W.cs (cells' := 0) (slots' := 0) rfl rfl ?_
    replace hw : WW G A zs ([oM (am 0) [.int th, .int (nI n), .int (nI room), .int (nI Sx), .int (nI Kx), .int (nI rs.length), .ref (am 1), .ref (am 2), .ref (am 3), .ref (am 4), .ref (am 5), .ref (am 6), .ref (am 7), .ref (am 8), .int (nI pm.length), .int (nI E.length), .int (nI S.length), .int (nI md), .int (nI ag), .int (nI (deadN S S.length)), .int (anF ov), .int bw, .ref (am 9), .ref (am 10), .ref (am 11), .ref (am 12), .ref (am 13), .ref (am 14), .ref (am 15), .ref (am 16), .ref (am 17), .ref (am 18), zv 0, zv 1], aI G (am 1) 40 (fa 1), aI G (am 2) 40 (fa 2), aI G (am 3) 40 (fa 3), aI G (am 4) 40 (fa 4), aI G (am 5) 160 (fa 5), aI G (am 6) 160 (fa 6), aZ G (am 7) 64 (fa 7), aI G (am 8) 96 (fa 8), aI G (am 9) 98304 (fa 9), aI G (am 10) 8192 (fa 10), aI G (am 11) 8192 (fa 11), aI G (am 12) 8192 (fa 12), aI G (am 13) 8192 (fa 13), aI G (am 14) 8192 (fa 14), aI G (am 15) 8192 (fa 15), aI G (am 16) 12 (fa 16), aI G (am 17) 12 (fa 17), aI G (am 18) 12 (fa 18)]) H locs := hw1
    refine r_if_eq (tgt := 30) hx hb (by omega) d_M_sends_8 (by decide) (fun c_8 => ?_) (fun c_8 => ?_)
    · skip
      refine lv_iconst (v := nI 1) hx hb d_M_sends_30 rfl ?_
      refine lv_goto (tgt := 35) hx hb d_M_sends_31 (by decide) ?_
      refine lv_istore (lv' := [(4, .int (nI 1)), (0, .ref (am 0)), (1, .int x), (2, .int y), (3, .int z)]) hx hb d_M_sends_35 hl (by decide) rfl (fun ls hl => ?_)
      refine lv_aload_n hx hb d_M_sends_37 rfl (lv_at hl 1 rfl) ?_
      refine lv_iload hx hb d_M_sends_38 (lv_at hl 0 rfl) ?_
      refine r_if_ne (tgt := 57) hx hb (by omega) d_M_sends_40 (by decide) (fun c_40 => ?_) (fun c_40 => ?_)
      · skip
        refine lv_iconst (v := nI 1) hx hb d_M_sends_57 rfl ?_
        refine lv_goto (tgt := 62) hx hb d_M_sends_58 (by decide) ?_
        refine lv_iload hx hb d_M_sends_62 (lv_at hl 0 rfl) ?_
        refine r_if_ne (tgt := 81) hx hb (by omega) d_M_sends_64 (by decide) (fun c_64 => ?_) (fun c_64 => ?_)
        · skip
          refine lv_iconst (v := nI 0) hx hb d_M_sends_81 rfl ?_
          refine xV_i (rest := []) (As := [.int (nI 1), .int (nI 0)]) hx hb hml hown hts hK hA hw k_M_103 (c_M_throwing zl G (am 0) th (nI 1) (nI 0) (.int (nI n)) (.int (nI room)) (.int (nI Sx)) (.int (nI Kx)) (.int (nI rs.length)) (.ref (am 1)) (.ref (am 2)) (.ref (am 3)) (.ref (am 4)) (.ref (am 5)) (.ref (am 6)) (.ref (am 7)) (.ref (am 8)) (.int (nI pm.length)) (.int (nI E.length)) (.int (nI S.length)) (.int (nI md)) (.int (nI ag)) (.int (nI (deadN S S.length))) (.int (anF ov)) (.int bw) (.ref (am 9)) (.ref (am 10)) (.ref (am 11)) (.ref (am 12)) (.ref (am 13)) (.ref (am 14)) (.ref (am 15)) (.ref (am 16)) (.ref (am 17)) (.ref (am 18)) (zv 0) (zv 1)) ([0]) rfl rfl (fun _ => Nat.le_of_ble_eq_true rfl) 0 rfl rfl rfl rfl hl.1 (Nat.le_of_ble_eq_true rfl) ⟨(by omega), (by omega)⟩ ⟨(by omega), (by omega)⟩ d_M_sends_82 (fun r u3 H locs hp hw1 => ?_)
          obtain ⟨rfl, rfl⟩ := hp
          refine W.cs (cells' := 0) (slots' := 0) rfl rfl ?_
          replace hw : WW G A zs ([oM (am 0) [.int (nI 1), .int (nI n), .int (nI room), .int (nI Sx), .int (nI Kx), .int (nI rs.length), .ref (am 1), .ref (am 2), .ref (am 3), .ref (am 4), .ref (am 5), .ref (am 6), .ref (am 7), .ref (am 8), .int (nI pm.length), .int (nI E.length), .int (nI S.length), .int (nI md), .int (nI ag), .int (nI (deadN S S.length)), .int (anF ov), .int bw, .ref (am 9), .ref (am 10), .ref (am 11), .ref (am 12), .ref (am 13), .ref (am 14), .ref (am 15), .ref (am 16), .ref (am 17), .ref (am 18), zv 0, zv 1], aI G (am 1) 40 (fa 1), aI G (am 2) 40 (fa 2), aI G (am 3) 40 (fa 3), aI G (am 4) 40 (fa 4), aI G (am 5) 160 (fa 5), aI G (am 6) 160 (fa 6), aZ G (am 7) 64 (fa 7), aI G (am 8) 96 (fa 8), aI G (am 9) 98304 (fa 9), aI G (am 10) 8192 (fa 10), aI G (am 11) 8192 (fa 11), aI G (am 12) 8192 (fa 12), aI G (am 13) 8192 (fa 13), aI G (am 14) 8192 (fa 14), aI G (am 15) 8192 (fa 15), aI G (am 16) 12 (fa 16), aI G (am 17) 12 (fa 17), aI G (am 18) 12 (fa 18)]) H locs := hw1
          refine r_if_eq (tgt := 90) hx hb (by omega) d_M_sends_85 (by decide) (fun c_85 => ?_) (fun c_85 => ?_)
          · skip
            exact absurd c_85 (by decide)
          · skip
            refine lv_iconst (v := nI 0) hx hb d_M_sends_88 rfl ?_
            exact r_ret hQ (r_iret () hx hb hr hlk hw trivial (by omega) (by omega) d_M_sends_89)
        · skip
          exfalso; omega
      · skip
        exfalso; omega
    · skip
      exact absurd c_8 (by decide)
set_option maxHeartbeats 4000000 in
set_option maxRecDepth 100000 in
theorem c_M_sendsX2 (zl : Launch) (G : GG) (am : Nat → Nat) (fa : Nat → Nat → Int32) (zv : Nat → Value) (th bw : Int32) (n room Sx Kx : Nat) (ps pm : List (List Nat)) (B : Nat → Bool) (rs : List Rl) (E : List Ent) (S : List Nat) (md ag ov : Nat) (i ms wh : Nat) (hMC : MC n ps pm B fa) (hrl : MRl rs fa) (hK6 : Kx ≤ 6) (hi : i < rs.length) (hms : ms < Kx) (hwh : wh = 0) (hev : (rs.getD i rD).2.1 = none) : Ctr (S := Unit) vI zl y_M_sends b_M_sends 5 (Option.some Jvm.ClassFile.FieldType.int) 1 0 0 G [.ref (am 0), .int (nI i), .int (nI ms), .int (nI wh)] ([oM (am 0) [.int th, .int (nI n), .int (nI room), .int (nI Sx), .int (nI Kx), .int (nI rs.length), .ref (am 1), .ref (am 2), .ref (am 3), .ref (am 4), .ref (am 5), .ref (am 6), .ref (am 7), .ref (am 8), .int (nI pm.length), .int (nI E.length), .int (nI S.length), .int (nI md), .int (nI ag), .int (nI (deadN S S.length)), .int (anF ov), .int bw, .ref (am 9), .ref (am 10), .ref (am 11), .ref (am 12), .ref (am 13), .ref (am 14), .ref (am 15), .ref (am 16), .ref (am 17), .ref (am 18), zv 0, zv 1], aI G (am 1) 40 (fa 1), aI G (am 2) 40 (fa 2), aI G (am 3) 40 (fa 3), aI G (am 4) 40 (fa 4), aI G (am 5) 160 (fa 5), aI G (am 6) 160 (fa 6), aZ G (am 7) 64 (fa 7), aI G (am 8) 96 (fa 8), aI G (am 9) 98304 (fa 9), aI G (am 10) 8192 (fa 10), aI G (am 11) 8192 (fa 11), aI G (am 12) 8192 (fa 12), aI G (am 13) 8192 (fa 13), aI G (am 14) 8192 (fa 14), aI G (am 15) 8192 (fa 15), aI G (am 16) 12 (fa 16), aI G (am 17) 12 (fa 17), aI G (am 18) 12 (fa 18)]) (fun _ _ => True) (fun _ => [oM (am 0) [.int (nI 1), .int (nI n), .int (nI room), .int (nI Sx), .int (nI Kx), .int (nI rs.length), .ref (am 1), .ref (am 2), .ref (am 3), .ref (am 4), .ref (am 5), .ref (am 6), .ref (am 7), .ref (am 8), .int (nI pm.length), .int (nI E.length), .int (nI S.length), .int (nI md), .int (nI ag), .int (nI (deadN S S.length)), .int (anF ov), .int bw, .ref (am 9), .ref (am 10), .ref (am 11), .ref (am 12), .ref (am 13), .ref (am 14), .ref (am 15), .ref (am 16), .ref (am 17), .ref (am 18), zv 0, zv 1], aI G (am 1) 40 (fa 1), aI G (am 2) 40 (fa 2), aI G (am 3) 40 (fa 3), aI G (am 4) 40 (fa 4), aI G (am 5) 160 (fa 5), aI G (am 6) 160 (fa 6), aZ G (am 7) 64 (fa 7), aI G (am 8) 96 (fa 8), aI G (am 9) 98304 (fa 9), aI G (am 10) 8192 (fa 10), aI G (am 11) 8192 (fa 11), aI G (am 12) 8192 (fa 12), aI G (am 13) 8192 (fa 13), aI G (am 14) 8192 (fa 14), aI G (am 15) 8192 (fa 15), aI G (am 16) 12 (fa 16), aI G (am 17) 12 (fa 17), aI G (am 18) 12 (fa 18)]) := by
  refine Ctr.start (by decide) (Nat.le_of_ble_eq_true rfl) ?_
  intro zp ze zs zm below meth zc A ls C0 hin hK hA hl hw
  obtain ⟨hx, hb, hr, hlk, hml, hown, hts⟩ := C0
  obtain ⟨R, hRR⟩ : ∃ R : Room, R = rmL 1 0 0 := ⟨_, rfl⟩
  have hRf : R.frames = 1 := by rw [hRR]
  have hRl : R.locals = 64 * 1 := by rw [hRR]
  have hRc : R.cells = 0 := by rw [hRR]
  have hRs : R.slots = 0 := by rw [hRR]
  rw [← hRR]; clear hRR
  generalize hQ : MQ below _ _ zs _ _ A = Q
  generalize hAr : List.toArray _ = args at hts hQ ⊢
  replace hl : lv_has ls 5 [(0, .ref (am 0)), (1, .int (nI i)), (2, .int (nI ms)), (3, .int (nI wh))] := hl
  obtain ⟨H, eH⟩ : ∃ H : Heap, H = zs.heap := ⟨_, rfl⟩
  obtain ⟨locs, eL⟩ : ∃ l0 : List Loc, l0 = [] := ⟨_, rfl⟩
  rw [← eH, ← eL] at hw ⊢; clear eH eL
  have hrll := hrl.1
  have hro := rs_at hrl.2.1 hi
  have hrl1 := hrl.2.2.2 i hi
  have hs4b := hro.2.2.2.2
  refine lv_iload_n hx hb d_M_sends_0 rfl (lv_at hl 1 rfl) ?_
  refine lv_aload_n hx hb d_M_sends_1 rfl (lv_at hl 0 rfl) ?_
  refine g_M_117 hx hb hts hown hK hw 0 rfl rfl d_M_sends_2 ?_
  refine xS_i (rest := []) (As := [.int (nI i), .int (nI rs.length)]) hx hb hml hown hts hK hA hw k_M_113 (c_M_isOf zl G (nI i) (nI rs.length)) ([]) rfl rfl (fun _ => Nat.le_of_ble_eq_true rfl) rfl rfl hl.1 (Nat.le_of_ble_eq_true rfl) ⟨(by omega), (by omega)⟩ ⟨(by omega), (by omega)⟩ d_M_sends_5 (fun r u H locs hp hw1 => ?_)
  rw [if_pos ⟨nI_pos' (by omega), nI_lt (by omega) (by omega)⟩] at hp
  subst hp
  refine W.cs (cells' := 0) (slots' := 0) rfl rfl ?_
  replace hw : WW G A zs ([oM (am 0) [.int th, .int (nI n), .int (nI room), .int (nI Sx), .int (nI Kx), .int (nI rs.length), .ref (am 1), .ref (am 2), .ref (am 3), .ref (am 4), .ref (am 5), .ref (am 6), .ref (am 7), .ref (am 8), .int (nI pm.length), .int (nI E.length), .int (nI S.length), .int (nI md), .int (nI ag), .int (nI (deadN S S.length)), .int (anF ov), .int bw, .ref (am 9), .ref (am 10), .ref (am 11), .ref (am 12), .ref (am 13), .ref (am 14), .ref (am 15), .ref (am 16), .ref (am 17), .ref (am 18), zv 0, zv 1], aI G (am 1) 40 (fa 1), aI G (am 2) 40 (fa 2), aI G (am 3) 40 (fa 3), aI G (am 4) 40 (fa 4), aI G (am 5) 160 (fa 5), aI G (am 6) 160 (fa 6), aZ G (am 7) 64 (fa 7), aI G (am 8) 96 (fa 8), aI G (am 9) 98304 (fa 9), aI G (am 10) 8192 (fa 10), aI G (am 11) 8192 (fa 11), aI G (am 12) 8192 (fa 12), aI G (am 13) 8192 (fa 13), aI G (am 14) 8192 (fa 14), aI G (am 15) 8192 (fa 15), aI G (am 16) 12 (fa 16), aI G (am 17) 12 (fa 17), aI G (am 18) 12 (fa 18)]) H locs := hw1
  refine r_if_eq (tgt := 30) hx hb (by omega) d_M_sends_8 (by decide) (fun c_8 => ?_) (fun c_8 => ?_)
  · skip
    exact absurd c_8 (by decide)
  · skip
    refine lv_iload_n hx hb d_M_sends_11 rfl (lv_at hl 2 rfl) ?_
    refine lv_aload_n hx hb d_M_sends_12 rfl (lv_at hl 0 rfl) ?_
    refine g_M_110 hx hb hts hown hK hw 0 rfl rfl d_M_sends_13 ?_
    refine xS_i (rest := []) (As := [.int (nI ms), .int (nI Kx)]) hx hb hml hown hts hK hA hw k_M_113 (c_M_isOf zl G (nI ms) (nI Kx)) ([]) rfl rfl (fun _ => Nat.le_of_ble_eq_true rfl) rfl rfl hl.1 (Nat.le_of_ble_eq_true rfl) ⟨(by omega), (by omega)⟩ ⟨(by omega), (by omega)⟩ d_M_sends_16 (fun r u H locs hp hw1 => ?_)
    rw [if_pos ⟨nI_pos' (by omega), nI_lt (by omega) (by omega)⟩] at hp
    subst hp
    refine W.cs (cells' := 0) (slots' := 0) rfl rfl ?_
    replace hw : WW G A zs ([oM (am 0) [.int th, .int (nI n), .int (nI room), .int (nI Sx), .int (nI Kx), .int (nI rs.length), .ref (am 1), .ref (am 2), .ref (am 3), .ref (am 4), .ref (am 5), .ref (am 6), .ref (am 7), .ref (am 8), .int (nI pm.length), .int (nI E.length), .int (nI S.length), .int (nI md), .int (nI ag), .int (nI (deadN S S.length)), .int (anF ov), .int bw, .ref (am 9), .ref (am 10), .ref (am 11), .ref (am 12), .ref (am 13), .ref (am 14), .ref (am 15), .ref (am 16), .ref (am 17), .ref (am 18), zv 0, zv 1], aI G (am 1) 40 (fa 1), aI G (am 2) 40 (fa 2), aI G (am 3) 40 (fa 3), aI G (am 4) 40 (fa 4), aI G (am 5) 160 (fa 5), aI G (am 6) 160 (fa 6), aZ G (am 7) 64 (fa 7), aI G (am 8) 96 (fa 8), aI G (am 9) 98304 (fa 9), aI G (am 10) 8192 (fa 10), aI G (am 11) 8192 (fa 11), aI G (am 12) 8192 (fa 12), aI G (am 13) 8192 (fa 13), aI G (am 14) 8192 (fa 14), aI G (am 15) 8192 (fa 15), aI G (am 16) 12 (fa 16), aI G (am 17) 12 (fa 17), aI G (am 18) 12 (fa 18)]) H locs := hw1
    refine r_if_eq (tgt := 30) hx hb (by omega) d_M_sends_19 (by decide) (fun c_19 => ?_) (fun c_19 => ?_)
    · skip
      exact absurd c_19 (by decide)
    · skip
      refine lv_iload_n hx hb d_M_sends_22 rfl (lv_at hl 3 rfl) ?_
      refine lv_iconst (v := nI 2) hx hb d_M_sends_23 rfl ?_
      refine xS_i (rest := []) (As := [.int (nI wh), .int (nI 2)]) hx hb hml hown hts hK hA hw k_M_113 (c_M_isOf zl G (nI wh) (nI 2)) ([]) rfl rfl (fun _ => Nat.le_of_ble_eq_true rfl) rfl rfl hl.1 (Nat.le_of_ble_eq_true rfl) ⟨(by omega), (by omega)⟩ ⟨(by omega), (by omega)⟩ d_M_sends_24 (fun r u H locs hp hw1 => ?_)
      rw [if_pos ⟨nI_pos' (by omega), nI_lt (by omega) (by omega)⟩] at hp
      subst hp
      refine W.cs (cells' := 0) (slots' := 0) rfl rfl ?_
      replace hw : WW G A zs ([oM (am 0) [.int th, .int (nI n), .int (nI room), .int (nI Sx), .int (nI Kx), .int (nI rs.length), .ref (am 1), .ref (am 2), .ref (am 3), .ref (am 4), .ref (am 5), .ref (am 6), .ref (am 7), .ref (am 8), .int (nI pm.length), .int (nI E.length), .int (nI S.length), .int (nI md), .int (nI ag), .int (nI (deadN S S.length)), .int (anF ov), .int bw, .ref (am 9), .ref (am 10), .ref (am 11), .ref (am 12), .ref (am 13), .ref (am 14), .ref (am 15), .ref (am 16), .ref (am 17), .ref (am 18), zv 0, zv 1], aI G (am 1) 40 (fa 1), aI G (am 2) 40 (fa 2), aI G (am 3) 40 (fa 3), aI G (am 4) 40 (fa 4), aI G (am 5) 160 (fa 5), aI G (am 6) 160 (fa 6), aZ G (am 7) 64 (fa 7), aI G (am 8) 96 (fa 8), aI G (am 9) 98304 (fa 9), aI G (am 10) 8192 (fa 10), aI G (am 11) 8192 (fa 11), aI G (am 12) 8192 (fa 12), aI G (am 13) 8192 (fa 13), aI G (am 14) 8192 (fa 14), aI G (am 15) 8192 (fa 15), aI G (am 16) 12 (fa 16), aI G (am 17) 12 (fa 17), aI G (am 18) 12 (fa 18)]) H locs := hw1
      refine r_if_ne (tgt := 34) hx hb (by omega) d_M_sends_27 (by decide) (fun c_27 => ?_) (fun c_27 => ?_)
      · skip
        refine lv_iconst (v := nI 0) hx hb d_M_sends_34 rfl ?_
        refine lv_istore (lv' := [(4, .int (nI 0)), (0, .ref (am 0)), (1, .int (nI i)), (2, .int (nI ms)), (3, .int (nI wh))]) hx hb d_M_sends_35 hl (by decide) rfl (fun ls hl => ?_)
        refine lv_aload_n hx hb d_M_sends_37 rfl (lv_at hl 1 rfl) ?_
        refine lv_iload hx hb d_M_sends_38 (lv_at hl 0 rfl) ?_
        refine r_if_ne (tgt := 57) hx hb (by omega) d_M_sends_40 (by decide) (fun c_40 => ?_) (fun c_40 => ?_)
        · skip
          exfalso; omega
        · skip
          refine lv_iload_n hx hb d_M_sends_43 rfl (lv_at hl 4 rfl) ?_
          refine r_if_ne (tgt := 61) hx hb (by omega) d_M_sends_44 (by decide) (fun c_44 => ?_) (fun c_44 => ?_)
          · skip
            exfalso; omega
          · skip
            refine lv_aload_n hx hb d_M_sends_47 rfl (lv_at hl 1 rfl) ?_
            refine g_M_17 hx hb hts hown hK hw 0 rfl rfl d_M_sends_48 ?_
            refine lv_iload_n hx hb d_M_sends_51 rfl (lv_at hl 2 rfl) ?_
            refine r_iald hx hb hK hw 2 rfl (by omega) (by omega) d_M_sends_52 ?_
            refine r_eq (show (fa 2) i = evI (rs.getD i rD).2.1 from hrl1.2.1) ?_
            refine lv_iconst (v := -1) hx hb d_M_sends_53 (by decide) ?_
            refine lv_icmp_ne (tgt := 61) hx hb d_M_sends_54 (by decide) (fun c_54 => ?_) (fun c_54 => ?_)
            · skip
              exact absurd (by rw [hev]; rfl) c_54
            · skip
              refine lv_iconst (v := nI 1) hx hb d_M_sends_57 rfl ?_
              refine lv_goto (tgt := 62) hx hb d_M_sends_58 (by decide) ?_
              refine lv_iload hx hb d_M_sends_62 (lv_at hl 0 rfl) ?_
              refine r_if_ne (tgt := 81) hx hb (by omega) d_M_sends_64 (by decide) (fun c_64 => ?_) (fun c_64 => ?_)
              · skip
                exfalso; omega
              · skip
                refine lv_aload_n hx hb d_M_sends_67 rfl (lv_at hl 1 rfl) ?_
                refine g_M_23 hx hb hts hown hK hw 0 rfl rfl d_M_sends_68 ?_
                refine lv_iload_n hx hb d_M_sends_71 rfl (lv_at hl 2 rfl) ?_
                refine r_iald hx hb hK hw 4 rfl (by omega) (by omega) d_M_sends_72 ?_
                refine r_eq (show (fa 4) i = nI ((rs.getD i rD).2.2.2.length) from hrl1.2.2.2.1) ?_
                refine lv_iconst (v := nI 4) hx hb d_M_sends_73 rfl ?_
                refine r_icmp_ne (tgt := 81) hx hb (by omega) (by omega) d_M_sends_74 (by decide) (fun c_74 => ?_) (fun c_74 => ?_)
                · skip
                  refine lv_iconst (v := nI 0) hx hb d_M_sends_81 rfl ?_
                  refine xV_i (rest := []) (As := [.int (nI 1), .int (nI 0)]) hx hb hml hown hts hK hA hw k_M_103 (c_M_throwing zl G (am 0) th (nI 1) (nI 0) (.int (nI n)) (.int (nI room)) (.int (nI Sx)) (.int (nI Kx)) (.int (nI rs.length)) (.ref (am 1)) (.ref (am 2)) (.ref (am 3)) (.ref (am 4)) (.ref (am 5)) (.ref (am 6)) (.ref (am 7)) (.ref (am 8)) (.int (nI pm.length)) (.int (nI E.length)) (.int (nI S.length)) (.int (nI md)) (.int (nI ag)) (.int (nI (deadN S S.length))) (.int (anF ov)) (.int bw) (.ref (am 9)) (.ref (am 10)) (.ref (am 11)) (.ref (am 12)) (.ref (am 13)) (.ref (am 14)) (.ref (am 15)) (.ref (am 16)) (.ref (am 17)) (.ref (am 18)) (zv 0) (zv 1)) ([0]) rfl rfl (fun _ => Nat.le_of_ble_eq_true rfl) 0 rfl rfl rfl rfl hl.1 (Nat.le_of_ble_eq_true rfl) ⟨(by omega), (by omega)⟩ ⟨(by omega), (by omega)⟩ d_M_sends_82 (fun r u3 H locs hp hw1 => ?_)
                  obtain ⟨rfl, rfl⟩ := hp
                  refine W.cs (cells' := 0) (slots' := 0) rfl rfl ?_
                  replace hw : WW G A zs ([oM (am 0) [.int (nI 1), .int (nI n), .int (nI room), .int (nI Sx), .int (nI Kx), .int (nI rs.length), .ref (am 1), .ref (am 2), .ref (am 3), .ref (am 4), .ref (am 5), .ref (am 6), .ref (am 7), .ref (am 8), .int (nI pm.length), .int (nI E.length), .int (nI S.length), .int (nI md), .int (nI ag), .int (nI (deadN S S.length)), .int (anF ov), .int bw, .ref (am 9), .ref (am 10), .ref (am 11), .ref (am 12), .ref (am 13), .ref (am 14), .ref (am 15), .ref (am 16), .ref (am 17), .ref (am 18), zv 0, zv 1], aI G (am 1) 40 (fa 1), aI G (am 2) 40 (fa 2), aI G (am 3) 40 (fa 3), aI G (am 4) 40 (fa 4), aI G (am 5) 160 (fa 5), aI G (am 6) 160 (fa 6), aZ G (am 7) 64 (fa 7), aI G (am 8) 96 (fa 8), aI G (am 9) 98304 (fa 9), aI G (am 10) 8192 (fa 10), aI G (am 11) 8192 (fa 11), aI G (am 12) 8192 (fa 12), aI G (am 13) 8192 (fa 13), aI G (am 14) 8192 (fa 14), aI G (am 15) 8192 (fa 15), aI G (am 16) 12 (fa 16), aI G (am 17) 12 (fa 17), aI G (am 18) 12 (fa 18)]) H locs := hw1
                  refine r_if_eq (tgt := 90) hx hb (by omega) d_M_sends_85 (by decide) (fun c_85 => ?_) (fun c_85 => ?_)
                  · skip
                    exact absurd c_85 (by decide)
                  · skip
                    refine lv_iconst (v := nI 0) hx hb d_M_sends_88 rfl ?_
                    exact r_ret hQ (r_iret () hx hb hr hlk hw trivial (by omega) (by omega) d_M_sends_89)
                · skip
                  refine lv_iconst (v := nI 1) hx hb d_M_sends_77 rfl ?_
                  refine lv_goto (tgt := 82) hx hb d_M_sends_78 (by decide) ?_
                  refine xV_i (rest := []) (As := [.int (nI 1), .int (nI 1)]) hx hb hml hown hts hK hA hw k_M_103 (c_M_throwing zl G (am 0) th (nI 1) (nI 1) (.int (nI n)) (.int (nI room)) (.int (nI Sx)) (.int (nI Kx)) (.int (nI rs.length)) (.ref (am 1)) (.ref (am 2)) (.ref (am 3)) (.ref (am 4)) (.ref (am 5)) (.ref (am 6)) (.ref (am 7)) (.ref (am 8)) (.int (nI pm.length)) (.int (nI E.length)) (.int (nI S.length)) (.int (nI md)) (.int (nI ag)) (.int (nI (deadN S S.length))) (.int (anF ov)) (.int bw) (.ref (am 9)) (.ref (am 10)) (.ref (am 11)) (.ref (am 12)) (.ref (am 13)) (.ref (am 14)) (.ref (am 15)) (.ref (am 16)) (.ref (am 17)) (.ref (am 18)) (zv 0) (zv 1)) ([0]) rfl rfl (fun _ => Nat.le_of_ble_eq_true rfl) 0 rfl rfl rfl rfl hl.1 (Nat.le_of_ble_eq_true rfl) ⟨(by omega), (by omega)⟩ ⟨(by omega), (by omega)⟩ d_M_sends_82 (fun r u3 H locs hp hw1 => ?_)
                  obtain ⟨rfl, rfl⟩ := hp
                  refine W.cs (cells' := 0) (slots' := 0) rfl rfl ?_
                  replace hw : WW G A zs ([oM (am 0) [.int (nI 1), .int (nI n), .int (nI room), .int (nI Sx), .int (nI Kx), .int (nI rs.length), .ref (am 1), .ref (am 2), .ref (am 3), .ref (am 4), .ref (am 5), .ref (am 6), .ref (am 7), .ref (am 8), .int (nI pm.length), .int (nI E.length), .int (nI S.length), .int (nI md), .int (nI ag), .int (nI (deadN S S.length)), .int (anF ov), .int bw, .ref (am 9), .ref (am 10), .ref (am 11), .ref (am 12), .ref (am 13), .ref (am 14), .ref (am 15), .ref (am 16), .ref (am 17), .ref (am 18), zv 0, zv 1], aI G (am 1) 40 (fa 1), aI G (am 2) 40 (fa 2), aI G (am 3) 40 (fa 3), aI G (am 4) 40 (fa 4), aI G (am 5) 160 (fa 5), aI G (am 6) 160 (fa 6), aZ G (am 7) 64 (fa 7), aI G (am 8) 96 (fa 8), aI G (am 9) 98304 (fa 9), aI G (am 10) 8192 (fa 10), aI G (am 11) 8192 (fa 11), aI G (am 12) 8192 (fa 12), aI G (am 13) 8192 (fa 13), aI G (am 14) 8192 (fa 14), aI G (am 15) 8192 (fa 15), aI G (am 16) 12 (fa 16), aI G (am 17) 12 (fa 17), aI G (am 18) 12 (fa 18)]) H locs := hw1
                  refine r_if_eq (tgt := 90) hx hb (by omega) d_M_sends_85 (by decide) (fun c_85 => ?_) (fun c_85 => ?_)
                  · skip
                    exact absurd c_85 (by decide)
                  · skip
                    refine lv_iconst (v := nI 0) hx hb d_M_sends_88 rfl ?_
                    exact r_ret hQ (r_iret () hx hb hr hlk hw trivial (by omega) (by omega) d_M_sends_89)
      · skip
        exact absurd c_27 (by decide)
set_option maxHeartbeats 4000000 in
set_option maxRecDepth 100000 in
theorem c_M_sendsY (zl : Launch) (G : GG) (am : Nat → Nat) (fa : Nat → Nat → Int32) (zv : Nat → Value) (th bw : Int32) (n room Sx Kx : Nat) (ps pm : List (List Nat)) (B : Nat → Bool) (rs : List Rl) (E : List Ent) (S : List Nat) (md ag ov : Nat) (i ms wh : Nat) (hMC : MC n ps pm B fa) (hrl : MRl rs fa) (hK6 : Kx ≤ 6) (hi : i < rs.length) (hms : ms < Kx) (hwh : wh = 1 ∨ (wh = 0 ∧ (rs.getD i rD).2.1 ≠ none)) (hs4 : (rs.getD i rD).2.2.2.length = 4) : Ctr (S := Unit) vI zl y_M_sends b_M_sends 5 (Option.some Jvm.ClassFile.FieldType.int) 1 0 0 G [.ref (am 0), .int (nI i), .int (nI ms), .int (nI wh)] ([oM (am 0) [.int th, .int (nI n), .int (nI room), .int (nI Sx), .int (nI Kx), .int (nI rs.length), .ref (am 1), .ref (am 2), .ref (am 3), .ref (am 4), .ref (am 5), .ref (am 6), .ref (am 7), .ref (am 8), .int (nI pm.length), .int (nI E.length), .int (nI S.length), .int (nI md), .int (nI ag), .int (nI (deadN S S.length)), .int (anF ov), .int bw, .ref (am 9), .ref (am 10), .ref (am 11), .ref (am 12), .ref (am 13), .ref (am 14), .ref (am 15), .ref (am 16), .ref (am 17), .ref (am 18), zv 0, zv 1], aI G (am 1) 40 (fa 1), aI G (am 2) 40 (fa 2), aI G (am 3) 40 (fa 3), aI G (am 4) 40 (fa 4), aI G (am 5) 160 (fa 5), aI G (am 6) 160 (fa 6), aZ G (am 7) 64 (fa 7), aI G (am 8) 96 (fa 8), aI G (am 9) 98304 (fa 9), aI G (am 10) 8192 (fa 10), aI G (am 11) 8192 (fa 11), aI G (am 12) 8192 (fa 12), aI G (am 13) 8192 (fa 13), aI G (am 14) 8192 (fa 14), aI G (am 15) 8192 (fa 15), aI G (am 16) 12 (fa 16), aI G (am 17) 12 (fa 17), aI G (am 18) 12 (fa 18)]) (fun _ _ => True) (fun _ => [oM (am 0) [.int (nI 2), .int (nI n), .int (nI room), .int (nI Sx), .int (nI Kx), .int (nI rs.length), .ref (am 1), .ref (am 2), .ref (am 3), .ref (am 4), .ref (am 5), .ref (am 6), .ref (am 7), .ref (am 8), .int (nI pm.length), .int (nI E.length), .int (nI S.length), .int (nI md), .int (nI ag), .int (nI (deadN S S.length)), .int (anF ov), .int bw, .ref (am 9), .ref (am 10), .ref (am 11), .ref (am 12), .ref (am 13), .ref (am 14), .ref (am 15), .ref (am 16), .ref (am 17), .ref (am 18), zv 0, zv 1], aI G (am 1) 40 (fa 1), aI G (am 2) 40 (fa 2), aI G (am 3) 40 (fa 3), aI G (am 4) 40 (fa 4), aI G (am 5) 160 (fa 5), aI G (am 6) 160 (fa 6), aZ G (am 7) 64 (fa 7), aI G (am 8) 96 (fa 8), aI G (am 9) 98304 (fa 9), aI G (am 10) 8192 (fa 10), aI G (am 11) 8192 (fa 11), aI G (am 12) 8192 (fa 12), aI G (am 13) 8192 (fa 13), aI G (am 14) 8192 (fa 14), aI G (am 15) 8192 (fa 15), aI G (am 16) 12 (fa 16), aI G (am 17) 12 (fa 17), aI G (am 18) 12 (fa 18)]) := by
  refine Ctr.start (by decide) (Nat.le_of_ble_eq_true rfl) ?_
  intro zp ze zs zm below meth zc A ls C0 hin hK hA hl hw
  obtain ⟨hx, hb, hr, hlk, hml, hown, hts⟩ := C0
  obtain ⟨R, hRR⟩ : ∃ R : Room, R = rmL 1 0 0 := ⟨_, rfl⟩
  have hRf : R.frames = 1 := by rw [hRR]
  have hRl : R.locals = 64 * 1 := by rw [hRR]
  have hRc : R.cells = 0 := by rw [hRR]
  have hRs : R.slots = 0 := by rw [hRR]
  rw [← hRR]; clear hRR
  generalize hQ : MQ below _ _ zs _ _ A = Q
  generalize hAr : List.toArray _ = args at hts hQ ⊢
  replace hl : lv_has ls 5 [(0, .ref (am 0)), (1, .int (nI i)), (2, .int (nI ms)), (3, .int (nI wh))] := hl
  obtain ⟨H, eH⟩ : ∃ H : Heap, H = zs.heap := ⟨_, rfl⟩
  obtain ⟨locs, eL⟩ : ∃ l0 : List Loc, l0 = [] := ⟨_, rfl⟩
  rw [← eH, ← eL] at hw ⊢; clear eH eL
  have hrll := hrl.1
  have hro := rs_at hrl.2.1 hi
  have hrl1 := hrl.2.2.2 i hi
  have hs4b := hro.2.2.2.2
  refine lv_iload_n hx hb d_M_sends_0 rfl (lv_at hl 1 rfl) ?_
  refine lv_aload_n hx hb d_M_sends_1 rfl (lv_at hl 0 rfl) ?_
  refine g_M_117 hx hb hts hown hK hw 0 rfl rfl d_M_sends_2 ?_
  refine xS_i (rest := []) (As := [.int (nI i), .int (nI rs.length)]) hx hb hml hown hts hK hA hw k_M_113 (c_M_isOf zl G (nI i) (nI rs.length)) ([]) rfl rfl (fun _ => Nat.le_of_ble_eq_true rfl) rfl rfl hl.1 (Nat.le_of_ble_eq_true rfl) ⟨(by omega), (by omega)⟩ ⟨(by omega), (by omega)⟩ d_M_sends_5 (fun r u H locs hp hw1 => ?_)
  rw [if_pos ⟨nI_pos' (by omega), nI_lt (by omega) (by omega)⟩] at hp
  subst hp
  refine W.cs (cells' := 0) (slots' := 0) rfl rfl ?_
  replace hw : WW G A zs ([oM (am 0) [.int th, .int (nI n), .int (nI room), .int (nI Sx), .int (nI Kx), .int (nI rs.length), .ref (am 1), .ref (am 2), .ref (am 3), .ref (am 4), .ref (am 5), .ref (am 6), .ref (am 7), .ref (am 8), .int (nI pm.length), .int (nI E.length), .int (nI S.length), .int (nI md), .int (nI ag), .int (nI (deadN S S.length)), .int (anF ov), .int bw, .ref (am 9), .ref (am 10), .ref (am 11), .ref (am 12), .ref (am 13), .ref (am 14), .ref (am 15), .ref (am 16), .ref (am 17), .ref (am 18), zv 0, zv 1], aI G (am 1) 40 (fa 1), aI G (am 2) 40 (fa 2), aI G (am 3) 40 (fa 3), aI G (am 4) 40 (fa 4), aI G (am 5) 160 (fa 5), aI G (am 6) 160 (fa 6), aZ G (am 7) 64 (fa 7), aI G (am 8) 96 (fa 8), aI G (am 9) 98304 (fa 9), aI G (am 10) 8192 (fa 10), aI G (am 11) 8192 (fa 11), aI G (am 12) 8192 (fa 12), aI G (am 13) 8192 (fa 13), aI G (am 14) 8192 (fa 14), aI G (am 15) 8192 (fa 15), aI G (am 16) 12 (fa 16), aI G (am 17) 12 (fa 17), aI G (am 18) 12 (fa 18)]) H locs := hw1
  refine r_if_eq (tgt := 30) hx hb (by omega) d_M_sends_8 (by decide) (fun c_8 => ?_) (fun c_8 => ?_)
  · skip
    exact absurd c_8 (by decide)
  · skip
    refine lv_iload_n hx hb d_M_sends_11 rfl (lv_at hl 2 rfl) ?_
    refine lv_aload_n hx hb d_M_sends_12 rfl (lv_at hl 0 rfl) ?_
    refine g_M_110 hx hb hts hown hK hw 0 rfl rfl d_M_sends_13 ?_
    refine xS_i (rest := []) (As := [.int (nI ms), .int (nI Kx)]) hx hb hml hown hts hK hA hw k_M_113 (c_M_isOf zl G (nI ms) (nI Kx)) ([]) rfl rfl (fun _ => Nat.le_of_ble_eq_true rfl) rfl rfl hl.1 (Nat.le_of_ble_eq_true rfl) ⟨(by omega), (by omega)⟩ ⟨(by omega), (by omega)⟩ d_M_sends_16 (fun r u H locs hp hw1 => ?_)
    rw [if_pos ⟨nI_pos' (by omega), nI_lt (by omega) (by omega)⟩] at hp
    subst hp
    refine W.cs (cells' := 0) (slots' := 0) rfl rfl ?_
    replace hw : WW G A zs ([oM (am 0) [.int th, .int (nI n), .int (nI room), .int (nI Sx), .int (nI Kx), .int (nI rs.length), .ref (am 1), .ref (am 2), .ref (am 3), .ref (am 4), .ref (am 5), .ref (am 6), .ref (am 7), .ref (am 8), .int (nI pm.length), .int (nI E.length), .int (nI S.length), .int (nI md), .int (nI ag), .int (nI (deadN S S.length)), .int (anF ov), .int bw, .ref (am 9), .ref (am 10), .ref (am 11), .ref (am 12), .ref (am 13), .ref (am 14), .ref (am 15), .ref (am 16), .ref (am 17), .ref (am 18), zv 0, zv 1], aI G (am 1) 40 (fa 1), aI G (am 2) 40 (fa 2), aI G (am 3) 40 (fa 3), aI G (am 4) 40 (fa 4), aI G (am 5) 160 (fa 5), aI G (am 6) 160 (fa 6), aZ G (am 7) 64 (fa 7), aI G (am 8) 96 (fa 8), aI G (am 9) 98304 (fa 9), aI G (am 10) 8192 (fa 10), aI G (am 11) 8192 (fa 11), aI G (am 12) 8192 (fa 12), aI G (am 13) 8192 (fa 13), aI G (am 14) 8192 (fa 14), aI G (am 15) 8192 (fa 15), aI G (am 16) 12 (fa 16), aI G (am 17) 12 (fa 17), aI G (am 18) 12 (fa 18)]) H locs := hw1
    refine r_if_eq (tgt := 30) hx hb (by omega) d_M_sends_19 (by decide) (fun c_19 => ?_) (fun c_19 => ?_)
    · skip
      exact absurd c_19 (by decide)
    · skip
      refine lv_iload_n hx hb d_M_sends_22 rfl (lv_at hl 3 rfl) ?_
      refine lv_iconst (v := nI 2) hx hb d_M_sends_23 rfl ?_
      refine xS_i (rest := []) (As := [.int (nI wh), .int (nI 2)]) hx hb hml hown hts hK hA hw k_M_113 (c_M_isOf zl G (nI wh) (nI 2)) ([]) rfl rfl (fun _ => Nat.le_of_ble_eq_true rfl) rfl rfl hl.1 (Nat.le_of_ble_eq_true rfl) ⟨(by omega), (by omega)⟩ ⟨(by omega), (by omega)⟩ d_M_sends_24 (fun r u H locs hp hw1 => ?_)
      rw [if_pos ⟨nI_pos' (by omega), nI_lt (by omega) (by omega)⟩] at hp
      subst hp
      refine W.cs (cells' := 0) (slots' := 0) rfl rfl ?_
      replace hw : WW G A zs ([oM (am 0) [.int th, .int (nI n), .int (nI room), .int (nI Sx), .int (nI Kx), .int (nI rs.length), .ref (am 1), .ref (am 2), .ref (am 3), .ref (am 4), .ref (am 5), .ref (am 6), .ref (am 7), .ref (am 8), .int (nI pm.length), .int (nI E.length), .int (nI S.length), .int (nI md), .int (nI ag), .int (nI (deadN S S.length)), .int (anF ov), .int bw, .ref (am 9), .ref (am 10), .ref (am 11), .ref (am 12), .ref (am 13), .ref (am 14), .ref (am 15), .ref (am 16), .ref (am 17), .ref (am 18), zv 0, zv 1], aI G (am 1) 40 (fa 1), aI G (am 2) 40 (fa 2), aI G (am 3) 40 (fa 3), aI G (am 4) 40 (fa 4), aI G (am 5) 160 (fa 5), aI G (am 6) 160 (fa 6), aZ G (am 7) 64 (fa 7), aI G (am 8) 96 (fa 8), aI G (am 9) 98304 (fa 9), aI G (am 10) 8192 (fa 10), aI G (am 11) 8192 (fa 11), aI G (am 12) 8192 (fa 12), aI G (am 13) 8192 (fa 13), aI G (am 14) 8192 (fa 14), aI G (am 15) 8192 (fa 15), aI G (am 16) 12 (fa 16), aI G (am 17) 12 (fa 17), aI G (am 18) 12 (fa 18)]) H locs := hw1
      refine r_if_ne (tgt := 34) hx hb (by omega) d_M_sends_27 (by decide) (fun c_27 => ?_) (fun c_27 => ?_)
      · skip
        refine lv_iconst (v := nI 0) hx hb d_M_sends_34 rfl ?_
        refine lv_istore (lv' := [(4, .int (nI 0)), (0, .ref (am 0)), (1, .int (nI i)), (2, .int (nI ms)), (3, .int (nI wh))]) hx hb d_M_sends_35 hl (by decide) rfl (fun ls hl => ?_)
        refine lv_aload_n hx hb d_M_sends_37 rfl (lv_at hl 1 rfl) ?_
        refine lv_iload hx hb d_M_sends_38 (lv_at hl 0 rfl) ?_
        refine r_if_ne (tgt := 57) hx hb (by omega) d_M_sends_40 (by decide) (fun c_40 => ?_) (fun c_40 => ?_)
        · skip
          exfalso; omega
        · skip
          refine lv_iload_n hx hb d_M_sends_43 rfl (lv_at hl 4 rfl) ?_
          refine r_if_ne (tgt := 61) hx hb (by omega) d_M_sends_44 (by decide) (fun c_44 => ?_) (fun c_44 => ?_)
          · skip
            refine lv_iconst (v := nI 0) hx hb d_M_sends_61 rfl ?_
            refine lv_iload hx hb d_M_sends_62 (lv_at hl 0 rfl) ?_
            refine r_if_ne (tgt := 81) hx hb (by omega) d_M_sends_64 (by decide) (fun c_64 => ?_) (fun c_64 => ?_)
            · skip
              exfalso; omega
            · skip
              refine lv_aload_n hx hb d_M_sends_67 rfl (lv_at hl 1 rfl) ?_
              refine g_M_23 hx hb hts hown hK hw 0 rfl rfl d_M_sends_68 ?_
              refine lv_iload_n hx hb d_M_sends_71 rfl (lv_at hl 2 rfl) ?_
              refine r_iald hx hb hK hw 4 rfl (by omega) (by omega) d_M_sends_72 ?_
              refine r_eq (show (fa 4) i = nI ((rs.getD i rD).2.2.2.length) from hrl1.2.2.2.1) ?_
              refine lv_iconst (v := nI 4) hx hb d_M_sends_73 rfl ?_
              refine r_icmp_ne (tgt := 81) hx hb (by omega) (by omega) d_M_sends_74 (by decide) (fun c_74 => ?_) (fun c_74 => ?_)
              · skip
                exfalso; omega
              · skip
                refine lv_iconst (v := nI 1) hx hb d_M_sends_77 rfl ?_
                refine lv_goto (tgt := 82) hx hb d_M_sends_78 (by decide) ?_
                refine xV_i (rest := []) (As := [.int (nI 0), .int (nI 1)]) hx hb hml hown hts hK hA hw k_M_103 (c_M_throwing zl G (am 0) th (nI 0) (nI 1) (.int (nI n)) (.int (nI room)) (.int (nI Sx)) (.int (nI Kx)) (.int (nI rs.length)) (.ref (am 1)) (.ref (am 2)) (.ref (am 3)) (.ref (am 4)) (.ref (am 5)) (.ref (am 6)) (.ref (am 7)) (.ref (am 8)) (.int (nI pm.length)) (.int (nI E.length)) (.int (nI S.length)) (.int (nI md)) (.int (nI ag)) (.int (nI (deadN S S.length))) (.int (anF ov)) (.int bw) (.ref (am 9)) (.ref (am 10)) (.ref (am 11)) (.ref (am 12)) (.ref (am 13)) (.ref (am 14)) (.ref (am 15)) (.ref (am 16)) (.ref (am 17)) (.ref (am 18)) (zv 0) (zv 1)) ([0]) rfl rfl (fun _ => Nat.le_of_ble_eq_true rfl) 0 rfl rfl rfl rfl hl.1 (Nat.le_of_ble_eq_true rfl) ⟨(by omega), (by omega)⟩ ⟨(by omega), (by omega)⟩ d_M_sends_82 (fun r u3 H locs hp hw1 => ?_)
                obtain ⟨rfl, rfl⟩ := hp
                refine W.cs (cells' := 0) (slots' := 0) rfl rfl ?_
                replace hw : WW G A zs ([oM (am 0) [.int (nI 2), .int (nI n), .int (nI room), .int (nI Sx), .int (nI Kx), .int (nI rs.length), .ref (am 1), .ref (am 2), .ref (am 3), .ref (am 4), .ref (am 5), .ref (am 6), .ref (am 7), .ref (am 8), .int (nI pm.length), .int (nI E.length), .int (nI S.length), .int (nI md), .int (nI ag), .int (nI (deadN S S.length)), .int (anF ov), .int bw, .ref (am 9), .ref (am 10), .ref (am 11), .ref (am 12), .ref (am 13), .ref (am 14), .ref (am 15), .ref (am 16), .ref (am 17), .ref (am 18), zv 0, zv 1], aI G (am 1) 40 (fa 1), aI G (am 2) 40 (fa 2), aI G (am 3) 40 (fa 3), aI G (am 4) 40 (fa 4), aI G (am 5) 160 (fa 5), aI G (am 6) 160 (fa 6), aZ G (am 7) 64 (fa 7), aI G (am 8) 96 (fa 8), aI G (am 9) 98304 (fa 9), aI G (am 10) 8192 (fa 10), aI G (am 11) 8192 (fa 11), aI G (am 12) 8192 (fa 12), aI G (am 13) 8192 (fa 13), aI G (am 14) 8192 (fa 14), aI G (am 15) 8192 (fa 15), aI G (am 16) 12 (fa 16), aI G (am 17) 12 (fa 17), aI G (am 18) 12 (fa 18)]) H locs := hw1
                refine r_if_eq (tgt := 90) hx hb (by omega) d_M_sends_85 (by decide) (fun c_85 => ?_) (fun c_85 => ?_)
                · skip
                  exact absurd c_85 (by decide)
                · skip
                  refine lv_iconst (v := nI 0) hx hb d_M_sends_88 rfl ?_
                  exact r_ret hQ (r_iret () hx hb hr hlk hw trivial (by omega) (by omega) d_M_sends_89)
          · skip
            refine lv_aload_n hx hb d_M_sends_47 rfl (lv_at hl 1 rfl) ?_
            refine g_M_17 hx hb hts hown hK hw 0 rfl rfl d_M_sends_48 ?_
            refine lv_iload_n hx hb d_M_sends_51 rfl (lv_at hl 2 rfl) ?_
            refine r_iald hx hb hK hw 2 rfl (by omega) (by omega) d_M_sends_52 ?_
            refine r_eq (show (fa 2) i = evI (rs.getD i rD).2.1 from hrl1.2.1) ?_
            refine lv_iconst (v := -1) hx hb d_M_sends_53 (by decide) ?_
            refine lv_icmp_ne (tgt := 61) hx hb d_M_sends_54 (by decide) (fun c_54 => ?_) (fun c_54 => ?_)
            · skip
              refine lv_iconst (v := nI 0) hx hb d_M_sends_61 rfl ?_
              refine lv_iload hx hb d_M_sends_62 (lv_at hl 0 rfl) ?_
              refine r_if_ne (tgt := 81) hx hb (by omega) d_M_sends_64 (by decide) (fun c_64 => ?_) (fun c_64 => ?_)
              · skip
                exfalso; omega
              · skip
                refine lv_aload_n hx hb d_M_sends_67 rfl (lv_at hl 1 rfl) ?_
                refine g_M_23 hx hb hts hown hK hw 0 rfl rfl d_M_sends_68 ?_
                refine lv_iload_n hx hb d_M_sends_71 rfl (lv_at hl 2 rfl) ?_
                refine r_iald hx hb hK hw 4 rfl (by omega) (by omega) d_M_sends_72 ?_
                refine r_eq (show (fa 4) i = nI ((rs.getD i rD).2.2.2.length) from hrl1.2.2.2.1) ?_
                refine lv_iconst (v := nI 4) hx hb d_M_sends_73 rfl ?_
                refine r_icmp_ne (tgt := 81) hx hb (by omega) (by omega) d_M_sends_74 (by decide) (fun c_74 => ?_) (fun c_74 => ?_)
                · skip
                  exfalso; omega
                · skip
                  refine lv_iconst (v := nI 1) hx hb d_M_sends_77 rfl ?_
                  refine lv_goto (tgt := 82) hx hb d_M_sends_78 (by decide) ?_
                  refine xV_i (rest := []) (As := [.int (nI 0), .int (nI 1)]) hx hb hml hown hts hK hA hw k_M_103 (c_M_throwing zl G (am 0) th (nI 0) (nI 1) (.int (nI n)) (.int (nI room)) (.int (nI Sx)) (.int (nI Kx)) (.int (nI rs.length)) (.ref (am 1)) (.ref (am 2)) (.ref (am 3)) (.ref (am 4)) (.ref (am 5)) (.ref (am 6)) (.ref (am 7)) (.ref (am 8)) (.int (nI pm.length)) (.int (nI E.length)) (.int (nI S.length)) (.int (nI md)) (.int (nI ag)) (.int (nI (deadN S S.length))) (.int (anF ov)) (.int bw) (.ref (am 9)) (.ref (am 10)) (.ref (am 11)) (.ref (am 12)) (.ref (am 13)) (.ref (am 14)) (.ref (am 15)) (.ref (am 16)) (.ref (am 17)) (.ref (am 18)) (zv 0) (zv 1)) ([0]) rfl rfl (fun _ => Nat.le_of_ble_eq_true rfl) 0 rfl rfl rfl rfl hl.1 (Nat.le_of_ble_eq_true rfl) ⟨(by omega), (by omega)⟩ ⟨(by omega), (by omega)⟩ d_M_sends_82 (fun r u3 H locs hp hw1 => ?_)
                  obtain ⟨rfl, rfl⟩ := hp
                  refine W.cs (cells' := 0) (slots' := 0) rfl rfl ?_
                  replace hw : WW G A zs ([oM (am 0) [.int (nI 2), .int (nI n), .int (nI room), .int (nI Sx), .int (nI Kx), .int (nI rs.length), .ref (am 1), .ref (am 2), .ref (am 3), .ref (am 4), .ref (am 5), .ref (am 6), .ref (am 7), .ref (am 8), .int (nI pm.length), .int (nI E.length), .int (nI S.length), .int (nI md), .int (nI ag), .int (nI (deadN S S.length)), .int (anF ov), .int bw, .ref (am 9), .ref (am 10), .ref (am 11), .ref (am 12), .ref (am 13), .ref (am 14), .ref (am 15), .ref (am 16), .ref (am 17), .ref (am 18), zv 0, zv 1], aI G (am 1) 40 (fa 1), aI G (am 2) 40 (fa 2), aI G (am 3) 40 (fa 3), aI G (am 4) 40 (fa 4), aI G (am 5) 160 (fa 5), aI G (am 6) 160 (fa 6), aZ G (am 7) 64 (fa 7), aI G (am 8) 96 (fa 8), aI G (am 9) 98304 (fa 9), aI G (am 10) 8192 (fa 10), aI G (am 11) 8192 (fa 11), aI G (am 12) 8192 (fa 12), aI G (am 13) 8192 (fa 13), aI G (am 14) 8192 (fa 14), aI G (am 15) 8192 (fa 15), aI G (am 16) 12 (fa 16), aI G (am 17) 12 (fa 17), aI G (am 18) 12 (fa 18)]) H locs := hw1
                  refine r_if_eq (tgt := 90) hx hb (by omega) d_M_sends_85 (by decide) (fun c_85 => ?_) (fun c_85 => ?_)
                  · skip
                    exact absurd c_85 (by decide)
                  · skip
                    refine lv_iconst (v := nI 0) hx hb d_M_sends_88 rfl ?_
                    exact r_ret hQ (r_iret () hx hb hr hlk hw trivial (by omega) (by omega) d_M_sends_89)
            · skip
              exact absurd c_54 (send_ev hwh (by omega) hro.2.1)
      · skip
        exact absurd c_27 (by decide)
set_option maxHeartbeats 4000000 in
set_option maxRecDepth 100000 in
theorem c_M_badT (zl : Launch) (G : GG) (am : Nat → Nat) (fa : Nat → Nat → Int32) (zv : Nat → Value) (th bw : Int32) (n room Sx Kx : Nat) (ps pm : List (List Nat)) (B : Nat → Bool) (rs : List Rl) (E : List Ent) (S : List Nat) (md ag ov : Nat) (a b : Nat) (hMC : MC n ps pm B fa) (hrl : MRl rs fa) (hS8 : Sx ≤ 8) (ha : a < Sx) (hb9 : b < Sx) (hwas : B (8 * a + b) = true) : Ctr (S := Unit) vI zl y_M_bad b_M_bad 3 (Option.some Jvm.ClassFile.FieldType.boolean) 1 0 0 G [.ref (am 0), .int (nI a), .int (nI b)] ([oM (am 0) [.int th, .int (nI n), .int (nI room), .int (nI Sx), .int (nI Kx), .int (nI rs.length), .ref (am 1), .ref (am 2), .ref (am 3), .ref (am 4), .ref (am 5), .ref (am 6), .ref (am 7), .ref (am 8), .int (nI pm.length), .int (nI E.length), .int (nI S.length), .int (nI md), .int (nI ag), .int (nI (deadN S S.length)), .int (anF ov), .int bw, .ref (am 9), .ref (am 10), .ref (am 11), .ref (am 12), .ref (am 13), .ref (am 14), .ref (am 15), .ref (am 16), .ref (am 17), .ref (am 18), zv 0, zv 1], aI G (am 1) 40 (fa 1), aI G (am 2) 40 (fa 2), aI G (am 3) 40 (fa 3), aI G (am 4) 40 (fa 4), aI G (am 5) 160 (fa 5), aI G (am 6) 160 (fa 6), aZ G (am 7) 64 (fa 7), aI G (am 8) 96 (fa 8), aI G (am 9) 98304 (fa 9), aI G (am 10) 8192 (fa 10), aI G (am 11) 8192 (fa 11), aI G (am 12) 8192 (fa 12), aI G (am 13) 8192 (fa 13), aI G (am 14) 8192 (fa 14), aI G (am 15) 8192 (fa 15), aI G (am 16) 12 (fa 16), aI G (am 17) 12 (fa 17), aI G (am 18) 12 (fa 18)]) (fun r _ => r = nI 0) (fun _ => [oM (am 0) [.int (nI 0), .int (nI n), .int (nI room), .int (nI Sx), .int (nI Kx), .int (nI rs.length), .ref (am 1), .ref (am 2), .ref (am 3), .ref (am 4), .ref (am 5), .ref (am 6), .ref (am 7), .ref (am 8), .int (nI pm.length), .int (nI E.length), .int (nI S.length), .int (nI md), .int (nI ag), .int (nI (deadN S S.length)), .int (anF ov), .int bw, .ref (am 9), .ref (am 10), .ref (am 11), .ref (am 12), .ref (am 13), .ref (am 14), .ref (am 15), .ref (am 16), .ref (am 17), .ref (am 18), zv 0, zv 1], aI G (am 1) 40 (fa 1), aI G (am 2) 40 (fa 2), aI G (am 3) 40 (fa 3), aI G (am 4) 40 (fa 4), aI G (am 5) 160 (fa 5), aI G (am 6) 160 (fa 6), aZ G (am 7) 64 (fa 7), aI G (am 8) 96 (fa 8), aI G (am 9) 98304 (fa 9), aI G (am 10) 8192 (fa 10), aI G (am 11) 8192 (fa 11), aI G (am 12) 8192 (fa 12), aI G (am 13) 8192 (fa 13), aI G (am 14) 8192 (fa 14), aI G (am 15) 8192 (fa 15), aI G (am 16) 12 (fa 16), aI G (am 17) 12 (fa 17), aI G (am 18) 12 (fa 18)]) := by
  refine Ctr.start (by decide) (Nat.le_of_ble_eq_true rfl) ?_
  intro zp ze zs zm below meth zc A ls C0 hin hK hA hl hw
  obtain ⟨hx, hb, hr, hlk, hml, hown, hts⟩ := C0
  obtain ⟨R, hRR⟩ : ∃ R : Room, R = rmL 1 0 0 := ⟨_, rfl⟩
  have hRf : R.frames = 1 := by rw [hRR]
  have hRl : R.locals = 64 * 1 := by rw [hRR]
  have hRc : R.cells = 0 := by rw [hRR]
  have hRs : R.slots = 0 := by rw [hRR]
  rw [← hRR]; clear hRR
  generalize hQ : MQ below _ _ zs _ _ A = Q
  generalize hAr : List.toArray _ = args at hts hQ ⊢
  replace hl : lv_has ls 3 [(0, .ref (am 0)), (1, .int (nI a)), (2, .int (nI b))] := hl
  obtain ⟨H, eH⟩ : ∃ H : Heap, H = zs.heap := ⟨_, rfl⟩
  obtain ⟨locs, eL⟩ : ∃ l0 : List Loc, l0 = [] := ⟨_, rfl⟩
  rw [← eH, ← eL] at hw ⊢; clear eH eL
  refine lv_aload_n hx hb d_M_bad_0 rfl (lv_at hl 0 rfl) ?_
  refine lv_iload_n hx hb d_M_bad_1 rfl (lv_at hl 1 rfl) ?_
  refine lv_aload_n hx hb d_M_bad_2 rfl (lv_at hl 0 rfl) ?_
  refine g_M_7 hx hb hts hown hK hw 0 rfl rfl d_M_bad_3 ?_
  refine xS_i (rest := [.ref (am 0)]) (As := [.int (nI a), .int (nI Sx)]) hx hb hml hown hts hK hA hw k_M_113 (c_M_isOf zl G (nI a) (nI Sx)) ([]) rfl rfl (fun _ => Nat.le_of_ble_eq_true rfl) rfl rfl hl.1 (Nat.le_of_ble_eq_true rfl) ⟨(by omega), (by omega)⟩ ⟨(by omega), (by omega)⟩ d_M_bad_6 (fun r u H locs hp hw1 => ?_)
  rw [if_pos ⟨nI_pos' (by omega), nI_lt (by omega) (by omega)⟩] at hp
  subst hp
  refine W.cs (cells' := 0) (slots' := 0) rfl rfl ?_
  replace hw : WW G A zs ([oM (am 0) [.int th, .int (nI n), .int (nI room), .int (nI Sx), .int (nI Kx), .int (nI rs.length), .ref (am 1), .ref (am 2), .ref (am 3), .ref (am 4), .ref (am 5), .ref (am 6), .ref (am 7), .ref (am 8), .int (nI pm.length), .int (nI E.length), .int (nI S.length), .int (nI md), .int (nI ag), .int (nI (deadN S S.length)), .int (anF ov), .int bw, .ref (am 9), .ref (am 10), .ref (am 11), .ref (am 12), .ref (am 13), .ref (am 14), .ref (am 15), .ref (am 16), .ref (am 17), .ref (am 18), zv 0, zv 1], aI G (am 1) 40 (fa 1), aI G (am 2) 40 (fa 2), aI G (am 3) 40 (fa 3), aI G (am 4) 40 (fa 4), aI G (am 5) 160 (fa 5), aI G (am 6) 160 (fa 6), aZ G (am 7) 64 (fa 7), aI G (am 8) 96 (fa 8), aI G (am 9) 98304 (fa 9), aI G (am 10) 8192 (fa 10), aI G (am 11) 8192 (fa 11), aI G (am 12) 8192 (fa 12), aI G (am 13) 8192 (fa 13), aI G (am 14) 8192 (fa 14), aI G (am 15) 8192 (fa 15), aI G (am 16) 12 (fa 16), aI G (am 17) 12 (fa 17), aI G (am 18) 12 (fa 18)]) H locs := hw1
  refine r_if_eq (tgt := 23) hx hb (by omega) d_M_bad_9 (by decide) (fun c_9 => ?_) (fun c_9 => ?_)
  · skip
    exact absurd c_9 (by decide)
  · skip
    refine lv_iload_n hx hb d_M_bad_12 rfl (lv_at hl 2 rfl) ?_
    refine lv_aload_n hx hb d_M_bad_13 rfl (lv_at hl 0 rfl) ?_
    refine g_M_7 hx hb hts hown hK hw 0 rfl rfl d_M_bad_14 ?_
    refine xS_i (rest := [.ref (am 0)]) (As := [.int (nI b), .int (nI Sx)]) hx hb hml hown hts hK hA hw k_M_113 (c_M_isOf zl G (nI b) (nI Sx)) ([]) rfl rfl (fun _ => Nat.le_of_ble_eq_true rfl) rfl rfl hl.1 (Nat.le_of_ble_eq_true rfl) ⟨(by omega), (by omega)⟩ ⟨(by omega), (by omega)⟩ d_M_bad_17 (fun r u H locs hp hw1 => ?_)
    rw [if_pos ⟨nI_pos' (by omega), nI_lt (by omega) (by omega)⟩] at hp
    subst hp
    refine W.cs (cells' := 0) (slots' := 0) rfl rfl ?_
    replace hw : WW G A zs ([oM (am 0) [.int th, .int (nI n), .int (nI room), .int (nI Sx), .int (nI Kx), .int (nI rs.length), .ref (am 1), .ref (am 2), .ref (am 3), .ref (am 4), .ref (am 5), .ref (am 6), .ref (am 7), .ref (am 8), .int (nI pm.length), .int (nI E.length), .int (nI S.length), .int (nI md), .int (nI ag), .int (nI (deadN S S.length)), .int (anF ov), .int bw, .ref (am 9), .ref (am 10), .ref (am 11), .ref (am 12), .ref (am 13), .ref (am 14), .ref (am 15), .ref (am 16), .ref (am 17), .ref (am 18), zv 0, zv 1], aI G (am 1) 40 (fa 1), aI G (am 2) 40 (fa 2), aI G (am 3) 40 (fa 3), aI G (am 4) 40 (fa 4), aI G (am 5) 160 (fa 5), aI G (am 6) 160 (fa 6), aZ G (am 7) 64 (fa 7), aI G (am 8) 96 (fa 8), aI G (am 9) 98304 (fa 9), aI G (am 10) 8192 (fa 10), aI G (am 11) 8192 (fa 11), aI G (am 12) 8192 (fa 12), aI G (am 13) 8192 (fa 13), aI G (am 14) 8192 (fa 14), aI G (am 15) 8192 (fa 15), aI G (am 16) 12 (fa 16), aI G (am 17) 12 (fa 17), aI G (am 18) 12 (fa 18)]) H locs := hw1
    refine r_if_ne (tgt := 27) hx hb (by omega) d_M_bad_20 (by decide) (fun c_20 => ?_) (fun c_20 => ?_)
    · skip
      refine lv_iconst (v := nI 0) hx hb d_M_bad_27 rfl ?_
      refine lv_iconst (v := nI 0) hx hb d_M_bad_28 rfl ?_
      refine xV_i (rest := []) (As := [.int (nI 0), .int (nI 0)]) hx hb hml hown hts hK hA hw k_M_103 (c_M_throwing zl G (am 0) th (nI 0) (nI 0) (.int (nI n)) (.int (nI room)) (.int (nI Sx)) (.int (nI Kx)) (.int (nI rs.length)) (.ref (am 1)) (.ref (am 2)) (.ref (am 3)) (.ref (am 4)) (.ref (am 5)) (.ref (am 6)) (.ref (am 7)) (.ref (am 8)) (.int (nI pm.length)) (.int (nI E.length)) (.int (nI S.length)) (.int (nI md)) (.int (nI ag)) (.int (nI (deadN S S.length))) (.int (anF ov)) (.int bw) (.ref (am 9)) (.ref (am 10)) (.ref (am 11)) (.ref (am 12)) (.ref (am 13)) (.ref (am 14)) (.ref (am 15)) (.ref (am 16)) (.ref (am 17)) (.ref (am 18)) (zv 0) (zv 1)) ([0]) rfl rfl (fun _ => Nat.le_of_ble_eq_true rfl) 0 rfl rfl rfl rfl hl.1 (Nat.le_of_ble_eq_true rfl) ⟨(by omega), (by omega)⟩ ⟨(by omega), (by omega)⟩ d_M_bad_29 (fun r u3 H locs hp hw1 => ?_)
      obtain ⟨rfl, rfl⟩ := hp
      refine W.cs (cells' := 0) (slots' := 0) rfl rfl ?_
      replace hw : WW G A zs ([oM (am 0) [.int (nI 0), .int (nI n), .int (nI room), .int (nI Sx), .int (nI Kx), .int (nI rs.length), .ref (am 1), .ref (am 2), .ref (am 3), .ref (am 4), .ref (am 5), .ref (am 6), .ref (am 7), .ref (am 8), .int (nI pm.length), .int (nI E.length), .int (nI S.length), .int (nI md), .int (nI ag), .int (nI (deadN S S.length)), .int (anF ov), .int bw, .ref (am 9), .ref (am 10), .ref (am 11), .ref (am 12), .ref (am 13), .ref (am 14), .ref (am 15), .ref (am 16), .ref (am 17), .ref (am 18), zv 0, zv 1], aI G (am 1) 40 (fa 1), aI G (am 2) 40 (fa 2), aI G (am 3) 40 (fa 3), aI G (am 4) 40 (fa 4), aI G (am 5) 160 (fa 5), aI G (am 6) 160 (fa 6), aZ G (am 7) 64 (fa 7), aI G (am 8) 96 (fa 8), aI G (am 9) 98304 (fa 9), aI G (am 10) 8192 (fa 10), aI G (am 11) 8192 (fa 11), aI G (am 12) 8192 (fa 12), aI G (am 13) 8192 (fa 13), aI G (am 14) 8192 (fa 14), aI G (am 15) 8192 (fa 15), aI G (am 16) 12 (fa 16), aI G (am 17) 12 (fa 17), aI G (am 18) 12 (fa 18)]) H locs := hw1
      refine r_if_eq (tgt := 37) hx hb (by omega) d_M_bad_32 (by decide) (fun c_32 => ?_) (fun c_32 => ?_)
      · skip
        refine lv_aload_n hx hb d_M_bad_37 rfl (lv_at hl 0 rfl) ?_
        refine g_M_32 hx hb hts hown hK hw 0 rfl rfl d_M_bad_38 ?_
        refine lv_bipush (v := nI 8) hx hb d_M_bad_41 (by decide) ?_
        refine lv_iload_n hx hb d_M_bad_43 rfl (lv_at hl 1 rfl) ?_
        refine r_imulN hx hb d_M_bad_44 ?_
        refine lv_iload_n hx hb d_M_bad_45 rfl (lv_at hl 2 rfl) ?_
        refine r_iaddN hx hb d_M_bad_46 ?_
        refine r_zald hx hb hK hw 7 rfl (by omega) (by omega) d_M_bad_47 ?_
        refine r_eq (show (fa 7) ((8 * a) + b) = nI 1 from by rw [hMC.2.2.1 _ (by omega), hwas]; rfl) ?_
        refine r_if_eq (tgt := 53) hx hb (by omega) d_M_bad_48 (by decide) (fun c_48 => ?_) (fun c_48 => ?_)
        · skip
          exfalso; omega
        · skip
          refine lv_iconst (v := nI 0) hx hb d_M_bad_51 rfl ?_
          exact r_ret hQ (r_zret () hx hb hr hlk hw rfl (by decide) (by omega) (by omega) d_M_bad_52)
      · skip
        exact absurd c_32 (by decide)
    · skip
      exact absurd c_20 (by decide)
set_option maxHeartbeats 4000000 in
set_option maxRecDepth 100000 in
theorem c_M_badF (zl : Launch) (G : GG) (am : Nat → Nat) (fa : Nat → Nat → Int32) (zv : Nat → Value) (th bw : Int32) (n room Sx Kx : Nat) (ps pm : List (List Nat)) (B : Nat → Bool) (rs : List Rl) (E : List Ent) (S : List Nat) (md ag ov : Nat) (a b : Nat) (hMC : MC n ps pm B fa) (hrl : MRl rs fa) (hS8 : Sx ≤ 8) (ha : a < Sx) (hb9 : b < Sx) (hwas : B (8 * a + b) = false) : Ctr (S := Nat → Nat → Int32) vI zl y_M_bad b_M_bad 3 (Option.some Jvm.ClassFile.FieldType.boolean) 1 0 0 G [.ref (am 0), .int (nI a), .int (nI b)] ([oM (am 0) [.int th, .int (nI n), .int (nI room), .int (nI Sx), .int (nI Kx), .int (nI rs.length), .ref (am 1), .ref (am 2), .ref (am 3), .ref (am 4), .ref (am 5), .ref (am 6), .ref (am 7), .ref (am 8), .int (nI pm.length), .int (nI E.length), .int (nI S.length), .int (nI md), .int (nI ag), .int (nI (deadN S S.length)), .int (anF ov), .int bw, .ref (am 9), .ref (am 10), .ref (am 11), .ref (am 12), .ref (am 13), .ref (am 14), .ref (am 15), .ref (am 16), .ref (am 17), .ref (am 18), zv 0, zv 1], aI G (am 1) 40 (fa 1), aI G (am 2) 40 (fa 2), aI G (am 3) 40 (fa 3), aI G (am 4) 40 (fa 4), aI G (am 5) 160 (fa 5), aI G (am 6) 160 (fa 6), aZ G (am 7) 64 (fa 7), aI G (am 8) 96 (fa 8), aI G (am 9) 98304 (fa 9), aI G (am 10) 8192 (fa 10), aI G (am 11) 8192 (fa 11), aI G (am 12) 8192 (fa 12), aI G (am 13) 8192 (fa 13), aI G (am 14) 8192 (fa 14), aI G (am 15) 8192 (fa 15), aI G (am 16) 12 (fa 16), aI G (am 17) 12 (fa 17), aI G (am 18) 12 (fa 18)]) (fun r u => r = nI 1 ∧ MC n ps pm (upB B (8 * a + b) (8 * b + a)) u ∧ MRl rs u) (fun u => [oM (am 0) [.int (nI 0), .int (nI n), .int (nI room), .int (nI Sx), .int (nI Kx), .int (nI rs.length), .ref (am 1), .ref (am 2), .ref (am 3), .ref (am 4), .ref (am 5), .ref (am 6), .ref (am 7), .ref (am 8), .int (nI pm.length), .int (nI (([] : List Ent).length)), .int (nI (([] : List Nat).length)), .int (nI 0), .int (nI 0), .int (nI (deadN ([] : List Nat) ([] : List Nat).length)), .int (anF 0), .int (-1), .ref (am 9), .ref (am 10), .ref (am 11), .ref (am 12), .ref (am 13), .ref (am 14), .ref (am 15), .ref (am 16), .ref (am 17), .ref (am 18), zv 0, zv 1], aI G (am 1) 40 (u 1), aI G (am 2) 40 (u 2), aI G (am 3) 40 (u 3), aI G (am 4) 40 (u 4), aI G (am 5) 160 (u 5), aI G (am 6) 160 (u 6), aZ G (am 7) 64 (u 7), aI G (am 8) 96 (u 8), aI G (am 9) 98304 (u 9), aI G (am 10) 8192 (u 10), aI G (am 11) 8192 (u 11), aI G (am 12) 8192 (u 12), aI G (am 13) 8192 (u 13), aI G (am 14) 8192 (u 14), aI G (am 15) 8192 (u 15), aI G (am 16) 12 (u 16), aI G (am 17) 12 (u 17), aI G (am 18) 12 (u 18)]) := by
  refine Ctr.start (by decide) (Nat.le_of_ble_eq_true rfl) ?_
  intro zp ze zs zm below meth zc A ls C0 hin hK hA hl hw
  obtain ⟨hx, hb, hr, hlk, hml, hown, hts⟩ := C0
  obtain ⟨R, hRR⟩ : ∃ R : Room, R = rmL 1 0 0 := ⟨_, rfl⟩
  have hRf : R.frames = 1 := by rw [hRR]
  have hRl : R.locals = 64 * 1 := by rw [hRR]
  have hRc : R.cells = 0 := by rw [hRR]
  have hRs : R.slots = 0 := by rw [hRR]
  rw [← hRR]; clear hRR
  generalize hQ : MQ below _ _ zs _ _ A = Q
  generalize hAr : List.toArray _ = args at hts hQ ⊢
  replace hl : lv_has ls 3 [(0, .ref (am 0)), (1, .int (nI a)), (2, .int (nI b))] := hl
  obtain ⟨H, eH⟩ : ∃ H : Heap, H = zs.heap := ⟨_, rfl⟩
  obtain ⟨locs, eL⟩ : ∃ l0 : List Loc, l0 = [] := ⟨_, rfl⟩
  rw [← eH, ← eL] at hw ⊢; clear eH eL
  refine lv_aload_n hx hb d_M_bad_0 rfl (lv_at hl 0 rfl) ?_
  refine lv_iload_n hx hb d_M_bad_1 rfl (lv_at hl 1 rfl) ?_
  refine lv_aload_n hx hb d_M_bad_2 rfl (lv_at hl 0 rfl) ?_
  refine g_M_7 hx hb hts hown hK hw 0 rfl rfl d_M_bad_3 ?_
  refine xS_i (rest := [.ref (am 0)]) (As := [.int (nI a), .int (nI Sx)]) hx hb hml hown hts hK hA hw k_M_113 (c_M_isOf zl G (nI a) (nI Sx)) ([]) rfl rfl (fun _ => Nat.le_of_ble_eq_true rfl) rfl rfl hl.1 (Nat.le_of_ble_eq_true rfl) ⟨(by omega), (by omega)⟩ ⟨(by omega), (by omega)⟩ d_M_bad_6 (fun r u H locs hp hw1 => ?_)
  rw [if_pos ⟨nI_pos' (by omega), nI_lt (by omega) (by omega)⟩] at hp
  subst hp
  refine W.cs (cells' := 0) (slots' := 0) rfl rfl ?_
  replace hw : WW G A zs ([oM (am 0) [.int th, .int (nI n), .int (nI room), .int (nI Sx), .int (nI Kx), .int (nI rs.length), .ref (am 1), .ref (am 2), .ref (am 3), .ref (am 4), .ref (am 5), .ref (am 6), .ref (am 7), .ref (am 8), .int (nI pm.length), .int (nI E.length), .int (nI S.length), .int (nI md), .int (nI ag), .int (nI (deadN S S.length)), .int (anF ov), .int bw, .ref (am 9), .ref (am 10), .ref (am 11), .ref (am 12), .ref (am 13), .ref (am 14), .ref (am 15), .ref (am 16), .ref (am 17), .ref (am 18), zv 0, zv 1], aI G (am 1) 40 (fa 1), aI G (am 2) 40 (fa 2), aI G (am 3) 40 (fa 3), aI G (am 4) 40 (fa 4), aI G (am 5) 160 (fa 5), aI G (am 6) 160 (fa 6), aZ G (am 7) 64 (fa 7), aI G (am 8) 96 (fa 8), aI G (am 9) 98304 (fa 9), aI G (am 10) 8192 (fa 10), aI G (am 11) 8192 (fa 11), aI G (am 12) 8192 (fa 12), aI G (am 13) 8192 (fa 13), aI G (am 14) 8192 (fa 14), aI G (am 15) 8192 (fa 15), aI G (am 16) 12 (fa 16), aI G (am 17) 12 (fa 17), aI G (am 18) 12 (fa 18)]) H locs := hw1
  refine r_if_eq (tgt := 23) hx hb (by omega) d_M_bad_9 (by decide) (fun c_9 => ?_) (fun c_9 => ?_)
  · skip
    exact absurd c_9 (by decide)
  · skip
    refine lv_iload_n hx hb d_M_bad_12 rfl (lv_at hl 2 rfl) ?_
    refine lv_aload_n hx hb d_M_bad_13 rfl (lv_at hl 0 rfl) ?_
    refine g_M_7 hx hb hts hown hK hw 0 rfl rfl d_M_bad_14 ?_
    refine xS_i (rest := [.ref (am 0)]) (As := [.int (nI b), .int (nI Sx)]) hx hb hml hown hts hK hA hw k_M_113 (c_M_isOf zl G (nI b) (nI Sx)) ([]) rfl rfl (fun _ => Nat.le_of_ble_eq_true rfl) rfl rfl hl.1 (Nat.le_of_ble_eq_true rfl) ⟨(by omega), (by omega)⟩ ⟨(by omega), (by omega)⟩ d_M_bad_17 (fun r u H locs hp hw1 => ?_)
    rw [if_pos ⟨nI_pos' (by omega), nI_lt (by omega) (by omega)⟩] at hp
    subst hp
    refine W.cs (cells' := 0) (slots' := 0) rfl rfl ?_
    replace hw : WW G A zs ([oM (am 0) [.int th, .int (nI n), .int (nI room), .int (nI Sx), .int (nI Kx), .int (nI rs.length), .ref (am 1), .ref (am 2), .ref (am 3), .ref (am 4), .ref (am 5), .ref (am 6), .ref (am 7), .ref (am 8), .int (nI pm.length), .int (nI E.length), .int (nI S.length), .int (nI md), .int (nI ag), .int (nI (deadN S S.length)), .int (anF ov), .int bw, .ref (am 9), .ref (am 10), .ref (am 11), .ref (am 12), .ref (am 13), .ref (am 14), .ref (am 15), .ref (am 16), .ref (am 17), .ref (am 18), zv 0, zv 1], aI G (am 1) 40 (fa 1), aI G (am 2) 40 (fa 2), aI G (am 3) 40 (fa 3), aI G (am 4) 40 (fa 4), aI G (am 5) 160 (fa 5), aI G (am 6) 160 (fa 6), aZ G (am 7) 64 (fa 7), aI G (am 8) 96 (fa 8), aI G (am 9) 98304 (fa 9), aI G (am 10) 8192 (fa 10), aI G (am 11) 8192 (fa 11), aI G (am 12) 8192 (fa 12), aI G (am 13) 8192 (fa 13), aI G (am 14) 8192 (fa 14), aI G (am 15) 8192 (fa 15), aI G (am 16) 12 (fa 16), aI G (am 17) 12 (fa 17), aI G (am 18) 12 (fa 18)]) H locs := hw1
    refine r_if_ne (tgt := 27) hx hb (by omega) d_M_bad_20 (by decide) (fun c_20 => ?_) (fun c_20 => ?_)
    · skip
      refine lv_iconst (v := nI 0) hx hb d_M_bad_27 rfl ?_
      refine lv_iconst (v := nI 0) hx hb d_M_bad_28 rfl ?_
      refine xV_i (rest := []) (As := [.int (nI 0), .int (nI 0)]) hx hb hml hown hts hK hA hw k_M_103 (c_M_throwing zl G (am 0) th (nI 0) (nI 0) (.int (nI n)) (.int (nI room)) (.int (nI Sx)) (.int (nI Kx)) (.int (nI rs.length)) (.ref (am 1)) (.ref (am 2)) (.ref (am 3)) (.ref (am 4)) (.ref (am 5)) (.ref (am 6)) (.ref (am 7)) (.ref (am 8)) (.int (nI pm.length)) (.int (nI E.length)) (.int (nI S.length)) (.int (nI md)) (.int (nI ag)) (.int (nI (deadN S S.length))) (.int (anF ov)) (.int bw) (.ref (am 9)) (.ref (am 10)) (.ref (am 11)) (.ref (am 12)) (.ref (am 13)) (.ref (am 14)) (.ref (am 15)) (.ref (am 16)) (.ref (am 17)) (.ref (am 18)) (zv 0) (zv 1)) ([0]) rfl rfl (fun _ => Nat.le_of_ble_eq_true rfl) 0 rfl rfl rfl rfl hl.1 (Nat.le_of_ble_eq_true rfl) ⟨(by omega), (by omega)⟩ ⟨(by omega), (by omega)⟩ d_M_bad_29 (fun r u3 H locs hp hw1 => ?_)
      obtain ⟨rfl, rfl⟩ := hp
      refine W.cs (cells' := 0) (slots' := 0) rfl rfl ?_
      replace hw : WW G A zs ([oM (am 0) [.int (nI 0), .int (nI n), .int (nI room), .int (nI Sx), .int (nI Kx), .int (nI rs.length), .ref (am 1), .ref (am 2), .ref (am 3), .ref (am 4), .ref (am 5), .ref (am 6), .ref (am 7), .ref (am 8), .int (nI pm.length), .int (nI E.length), .int (nI S.length), .int (nI md), .int (nI ag), .int (nI (deadN S S.length)), .int (anF ov), .int bw, .ref (am 9), .ref (am 10), .ref (am 11), .ref (am 12), .ref (am 13), .ref (am 14), .ref (am 15), .ref (am 16), .ref (am 17), .ref (am 18), zv 0, zv 1], aI G (am 1) 40 (fa 1), aI G (am 2) 40 (fa 2), aI G (am 3) 40 (fa 3), aI G (am 4) 40 (fa 4), aI G (am 5) 160 (fa 5), aI G (am 6) 160 (fa 6), aZ G (am 7) 64 (fa 7), aI G (am 8) 96 (fa 8), aI G (am 9) 98304 (fa 9), aI G (am 10) 8192 (fa 10), aI G (am 11) 8192 (fa 11), aI G (am 12) 8192 (fa 12), aI G (am 13) 8192 (fa 13), aI G (am 14) 8192 (fa 14), aI G (am 15) 8192 (fa 15), aI G (am 16) 12 (fa 16), aI G (am 17) 12 (fa 17), aI G (am 18) 12 (fa 18)]) H locs := hw1
      refine r_if_eq (tgt := 37) hx hb (by omega) d_M_bad_32 (by decide) (fun c_32 => ?_) (fun c_32 => ?_)
      · skip
        refine lv_aload_n hx hb d_M_bad_37 rfl (lv_at hl 0 rfl) ?_
        refine g_M_32 hx hb hts hown hK hw 0 rfl rfl d_M_bad_38 ?_
        refine lv_bipush (v := nI 8) hx hb d_M_bad_41 (by decide) ?_
        refine lv_iload_n hx hb d_M_bad_43 rfl (lv_at hl 1 rfl) ?_
        refine r_imulN hx hb d_M_bad_44 ?_
        refine lv_iload_n hx hb d_M_bad_45 rfl (lv_at hl 2 rfl) ?_
        refine r_iaddN hx hb d_M_bad_46 ?_
        refine r_zald hx hb hK hw 7 rfl (by omega) (by omega) d_M_bad_47 ?_
        refine r_eq (show (fa 7) ((8 * a) + b) = nI 0 from by rw [hMC.2.2.1 _ (by omega), hwas]; rfl) ?_
        refine r_if_eq (tgt := 53) hx hb (by omega) d_M_bad_48 (by decide) (fun c_48 => ?_) (fun c_48 => ?_)
        · skip
          refine lv_aload_n hx hb d_M_bad_53 rfl (lv_at hl 0 rfl) ?_
          refine xV_v (rest := []) (As := []) hx hb hml hown hts hK hA hw k_M_107 (c_M_forget zl G (am 0) _ _ _ _ _ _ _ _ _ _ _ _ _ _ _ _ _ _ _ _ _ _ _ _ _ _ _ _ _ _ _ _ _ _) ([0]) rfl rfl (fun _ => Nat.le_of_ble_eq_true rfl) 0 rfl rfl rfl rfl hl.1 (Nat.le_of_ble_eq_true rfl) ⟨(by omega), (by omega)⟩ ⟨(by omega), (by omega)⟩ d_M_bad_54 (fun _ u H locs hp hw1 => ?_)
          refine W.cs (cells' := 0) (slots' := 0) rfl rfl ?_
          replace hw : WW G A zs ([oM (am 0) [.int (nI 0), .int (nI n), .int (nI room), .int (nI Sx), .int (nI Kx), .int (nI rs.length), .ref (am 1), .ref (am 2), .ref (am 3), .ref (am 4), .ref (am 5), .ref (am 6), .ref (am 7), .ref (am 8), .int (nI pm.length), .int (nI 0), .int (nI 0), .int (nI 0), .int (nI 0), .int (nI 0), .int (nI 0), .int (-1), .ref (am 9), .ref (am 10), .ref (am 11), .ref (am 12), .ref (am 13), .ref (am 14), .ref (am 15), .ref (am 16), .ref (am 17), .ref (am 18), zv 0, zv 1], aI G (am 1) 40 (fa 1), aI G (am 2) 40 (fa 2), aI G (am 3) 40 (fa 3), aI G (am 4) 40 (fa 4), aI G (am 5) 160 (fa 5), aI G (am 6) 160 (fa 6), aZ G (am 7) 64 (fa 7), aI G (am 8) 96 (fa 8), aI G (am 9) 98304 (fa 9), aI G (am 10) 8192 (fa 10), aI G (am 11) 8192 (fa 11), aI G (am 12) 8192 (fa 12), aI G (am 13) 8192 (fa 13), aI G (am 14) 8192 (fa 14), aI G (am 15) 8192 (fa 15), aI G (am 16) 12 (fa 16), aI G (am 17) 12 (fa 17), aI G (am 18) 12 (fa 18)]) H locs := hw1
          refine lv_aload_n hx hb d_M_bad_57 rfl (lv_at hl 0 rfl) ?_
          refine g_M_32 hx hb hts hown hK hw 0 rfl rfl d_M_bad_58 ?_
          refine lv_bipush (v := nI 8) hx hb d_M_bad_61 (by decide) ?_
          refine lv_iload_n hx hb d_M_bad_63 rfl (lv_at hl 1 rfl) ?_
          refine r_imulN hx hb d_M_bad_64 ?_
          refine lv_iload_n hx hb d_M_bad_65 rfl (lv_at hl 2 rfl) ?_
          refine r_iaddN hx hb d_M_bad_66 ?_
          refine lv_iconst (v := nI 1) hx hb d_M_bad_67 rfl ?_
          refine r_zast hx hb hK hw 7 rfl (by omega) (by omega) (y := nI 1) rfl d_M_bad_68 (fun H locs hw1 => ?_)
          replace hw : WW G A zs ([oM (am 0) [.int (nI 0), .int (nI n), .int (nI room), .int (nI Sx), .int (nI Kx), .int (nI rs.length), .ref (am 1), .ref (am 2), .ref (am 3), .ref (am 4), .ref (am 5), .ref (am 6), .ref (am 7), .ref (am 8), .int (nI pm.length), .int (nI 0), .int (nI 0), .int (nI 0), .int (nI 0), .int (nI 0), .int (nI 0), .int (-1), .ref (am 9), .ref (am 10), .ref (am 11), .ref (am 12), .ref (am 13), .ref (am 14), .ref (am 15), .ref (am 16), .ref (am 17), .ref (am 18), zv 0, zv 1], aI G (am 1) 40 (fa 1), aI G (am 2) 40 (fa 2), aI G (am 3) 40 (fa 3), aI G (am 4) 40 (fa 4), aI G (am 5) 160 (fa 5), aI G (am 6) 160 (fa 6), aZ G (am 7) 64 (upd (fa 7) ((8 * a) + b) (nI 1)), aI G (am 8) 96 (fa 8), aI G (am 9) 98304 (fa 9), aI G (am 10) 8192 (fa 10), aI G (am 11) 8192 (fa 11), aI G (am 12) 8192 (fa 12), aI G (am 13) 8192 (fa 13), aI G (am 14) 8192 (fa 14), aI G (am 15) 8192 (fa 15), aI G (am 16) 12 (fa 16), aI G (am 17) 12 (fa 17), aI G (am 18) 12 (fa 18)]) H locs := hw1
          refine lv_aload_n hx hb d_M_bad_69 rfl (lv_at hl 0 rfl) ?_
          refine g_M_32 hx hb hts hown hK hw 0 rfl rfl d_M_bad_70 ?_
          refine lv_bipush (v := nI 8) hx hb d_M_bad_73 (by decide) ?_
          refine lv_iload_n hx hb d_M_bad_75 rfl (lv_at hl 2 rfl) ?_
          refine r_imulN hx hb d_M_bad_76 ?_
          refine lv_iload_n hx hb d_M_bad_77 rfl (lv_at hl 1 rfl) ?_
          refine r_iaddN hx hb d_M_bad_78 ?_
          refine lv_iconst (v := nI 1) hx hb d_M_bad_79 rfl ?_
          refine r_zast hx hb hK hw 7 rfl (by omega) (by omega) (y := nI 1) rfl d_M_bad_80 (fun H locs hw1 => ?_)
          replace hw : WW G A zs ([oM (am 0) [.int (nI 0), .int (nI n), .int (nI room), .int (nI Sx), .int (nI Kx), .int (nI rs.length), .ref (am 1), .ref (am 2), .ref (am 3), .ref (am 4), .ref (am 5), .ref (am 6), .ref (am 7), .ref (am 8), .int (nI pm.length), .int (nI 0), .int (nI 0), .int (nI 0), .int (nI 0), .int (nI 0), .int (nI 0), .int (-1), .ref (am 9), .ref (am 10), .ref (am 11), .ref (am 12), .ref (am 13), .ref (am 14), .ref (am 15), .ref (am 16), .ref (am 17), .ref (am 18), zv 0, zv 1], aI G (am 1) 40 (fa 1), aI G (am 2) 40 (fa 2), aI G (am 3) 40 (fa 3), aI G (am 4) 40 (fa 4), aI G (am 5) 160 (fa 5), aI G (am 6) 160 (fa 6), aZ G (am 7) 64 (upd (upd (fa 7) ((8 * a) + b) (nI 1)) ((8 * b) + a) (nI 1)), aI G (am 8) 96 (fa 8), aI G (am 9) 98304 (fa 9), aI G (am 10) 8192 (fa 10), aI G (am 11) 8192 (fa 11), aI G (am 12) 8192 (fa 12), aI G (am 13) 8192 (fa 13), aI G (am 14) 8192 (fa 14), aI G (am 15) 8192 (fa 15), aI G (am 16) 12 (fa 16), aI G (am 17) 12 (fa 17), aI G (am 18) 12 (fa 18)]) H locs := hw1
          refine lv_iconst (v := nI 1) hx hb d_M_bad_81 rfl ?_
          exact r_ret hQ (r_zret (va_up fa 7 (upd (upd (fa 7) (8 * a + b) (nI 1)) (8 * b + a) (nI 1))) hx hb hr hlk hw (⟨rfl, hMC.bad (by omega) (by omega), hrl.kp2 kp7⟩) (by decide) (by omega) (by omega) d_M_bad_82)
        · skip
          exfalso; omega
      · skip
        exact absurd c_32 (by decide)
    · skip
      exact absurd c_20 (by decide)
set_option maxHeartbeats 4000000 in
set_option maxRecDepth 100000 in
theorem c_M_badX (zl : Launch) (G : GG) (am : Nat → Nat) (fa : Nat → Nat → Int32) (zv : Nat → Value) (th bw : Int32) (n room Sx Kx : Nat) (ps pm : List (List Nat)) (B : Nat → Bool) (rs : List Rl) (E : List Ent) (S : List Nat) (md ag ov : Nat) (x y : Int32) (hbad : ¬ ((0 ≤ x ∧ x < nI Sx) ∧ (0 ≤ y ∧ y < nI Sx))) : Ctr (S := Unit) vI zl y_M_bad b_M_bad 3 (Option.some Jvm.ClassFile.FieldType.boolean) 1 0 0 G [.ref (am 0), .int x, .int y] ([oM (am 0) [.int th, .int (nI n), .int (nI room), .int (nI Sx), .int (nI Kx), .int (nI rs.length), .ref (am 1), .ref (am 2), .ref (am 3), .ref (am 4), .ref (am 5), .ref (am 6), .ref (am 7), .ref (am 8), .int (nI pm.length), .int (nI E.length), .int (nI S.length), .int (nI md), .int (nI ag), .int (nI (deadN S S.length)), .int (anF ov), .int bw, .ref (am 9), .ref (am 10), .ref (am 11), .ref (am 12), .ref (am 13), .ref (am 14), .ref (am 15), .ref (am 16), .ref (am 17), .ref (am 18), zv 0, zv 1], aI G (am 1) 40 (fa 1), aI G (am 2) 40 (fa 2), aI G (am 3) 40 (fa 3), aI G (am 4) 40 (fa 4), aI G (am 5) 160 (fa 5), aI G (am 6) 160 (fa 6), aZ G (am 7) 64 (fa 7), aI G (am 8) 96 (fa 8), aI G (am 9) 98304 (fa 9), aI G (am 10) 8192 (fa 10), aI G (am 11) 8192 (fa 11), aI G (am 12) 8192 (fa 12), aI G (am 13) 8192 (fa 13), aI G (am 14) 8192 (fa 14), aI G (am 15) 8192 (fa 15), aI G (am 16) 12 (fa 16), aI G (am 17) 12 (fa 17), aI G (am 18) 12 (fa 18)]) (fun _ _ => True) (fun _ => [oM (am 0) [.int (nI 1), .int (nI n), .int (nI room), .int (nI Sx), .int (nI Kx), .int (nI rs.length), .ref (am 1), .ref (am 2), .ref (am 3), .ref (am 4), .ref (am 5), .ref (am 6), .ref (am 7), .ref (am 8), .int (nI pm.length), .int (nI E.length), .int (nI S.length), .int (nI md), .int (nI ag), .int (nI (deadN S S.length)), .int (anF ov), .int bw, .ref (am 9), .ref (am 10), .ref (am 11), .ref (am 12), .ref (am 13), .ref (am 14), .ref (am 15), .ref (am 16), .ref (am 17), .ref (am 18), zv 0, zv 1], aI G (am 1) 40 (fa 1), aI G (am 2) 40 (fa 2), aI G (am 3) 40 (fa 3), aI G (am 4) 40 (fa 4), aI G (am 5) 160 (fa 5), aI G (am 6) 160 (fa 6), aZ G (am 7) 64 (fa 7), aI G (am 8) 96 (fa 8), aI G (am 9) 98304 (fa 9), aI G (am 10) 8192 (fa 10), aI G (am 11) 8192 (fa 11), aI G (am 12) 8192 (fa 12), aI G (am 13) 8192 (fa 13), aI G (am 14) 8192 (fa 14), aI G (am 15) 8192 (fa 15), aI G (am 16) 12 (fa 16), aI G (am 17) 12 (fa 17), aI G (am 18) 12 (fa 18)]) := by
  refine Ctr.start (by decide) (Nat.le_of_ble_eq_true rfl) ?_
  intro zp ze zs zm below meth zc A ls C0 hin hK hA hl hw
  obtain ⟨hx, hb, hr, hlk, hml, hown, hts⟩ := C0
  obtain ⟨R, hRR⟩ : ∃ R : Room, R = rmL 1 0 0 := ⟨_, rfl⟩
  have hRf : R.frames = 1 := by rw [hRR]
  have hRl : R.locals = 64 * 1 := by rw [hRR]
  have hRc : R.cells = 0 := by rw [hRR]
  have hRs : R.slots = 0 := by rw [hRR]
  rw [← hRR]; clear hRR
  generalize hQ : MQ below _ _ zs _ _ A = Q
  generalize hAr : List.toArray _ = args at hts hQ ⊢
  replace hl : lv_has ls 3 [(0, .ref (am 0)), (1, .int x), (2, .int y)] := hl
  obtain ⟨H, eH⟩ : ∃ H : Heap, H = zs.heap := ⟨_, rfl⟩
  obtain ⟨locs, eL⟩ : ∃ l0 : List Loc, l0 = [] := ⟨_, rfl⟩
  rw [← eH, ← eL] at hw ⊢; clear eH eL
  refine lv_aload_n hx hb d_M_bad_0 rfl (lv_at hl 0 rfl) ?_
  refine lv_iload_n hx hb d_M_bad_1 rfl (lv_at hl 1 rfl) ?_
  refine lv_aload_n hx hb d_M_bad_2 rfl (lv_at hl 0 rfl) ?_
  refine g_M_7 hx hb hts hown hK hw 0 rfl rfl d_M_bad_3 ?_
  by_cases ho_6 : 0 ≤ x ∧ x < nI Sx
  · skip
    refine xS_i (rest := [.ref (am 0)]) (As := [.int x, .int (nI Sx)]) hx hb hml hown hts hK hA hw k_M_113 (c_M_isOf zl G x (nI Sx)) ([]) rfl rfl (fun _ => Nat.le_of_ble_eq_true rfl) rfl rfl hl.1 (Nat.le_of_ble_eq_true rfl) ⟨(by omega), (by omega)⟩ ⟨(by omega), (by omega)⟩ d_M_bad_6 (fun r u H locs hp hw1 => ?_)
    rw [if_pos ho_6] at hp
    subst hp
    refine W.cs (cells' := 0) (slots' := 0) rfl rfl ?_
    replace hw : WW G A zs ([oM (am 0) [.int th, .int (nI n), .int (nI room), .int (nI Sx), .int (nI Kx), .int (nI rs.length), .ref (am 1), .ref (am 2), .ref (am 3), .ref (am 4), .ref (am 5), .ref (am 6), .ref (am 7), .ref (am 8), .int (nI pm.length), .int (nI E.length), .int (nI S.length), .int (nI md), .int (nI ag), .int (nI (deadN S S.length)), .int (anF ov), .int bw, .ref (am 9), .ref (am 10), .ref (am 11), .ref (am 12), .ref (am 13), .ref (am 14), .ref (am 15), .ref (am 16), .ref (am 17), .ref (am 18), zv 0, zv 1], aI G (am 1) 40 (fa 1), aI G (am 2) 40 (fa 2), aI G (am 3) 40 (fa 3), aI G (am 4) 40 (fa 4), aI G (am 5) 160 (fa 5), aI G (am 6) 160 (fa 6), aZ G (am 7) 64 (fa 7), aI G (am 8) 96 (fa 8), aI G (am 9) 98304 (fa 9), aI G (am 10) 8192 (fa 10), aI G (am 11) 8192 (fa 11), aI G (am 12) 8192 (fa 12), aI G (am 13) 8192 (fa 13), aI G (am 14) 8192 (fa 14), aI G (am 15) 8192 (fa 15), aI G (am 16) 12 (fa 16), aI G (am 17) 12 (fa 17), aI G (am 18) 12 (fa 18)]) H locs := hw1
    refine r_if_eq (tgt := 23) hx hb (by omega) d_M_bad_9 (by decide) (fun c_9 => ?_) (fun c_9 => ?_)
    · skip
      exact absurd c_9 (by decide)
    · skip
      refine lv_iload_n hx hb d_M_bad_12 rfl (lv_at hl 2 rfl) ?_
      refine lv_aload_n hx hb d_M_bad_13 rfl (lv_at hl 0 rfl) ?_
      refine g_M_7 hx hb hts hown hK hw 0 rfl rfl d_M_bad_14 ?_
      by_cases ho_17 : 0 ≤ y ∧ y < nI Sx
      · skip
        refine xS_i (rest := [.ref (am 0)]) (As := [.int y, .int (nI Sx)]) hx hb hml hown hts hK hA hw k_M_113 (c_M_isOf zl G y (nI Sx)) ([]) rfl rfl (fun _ => Nat.le_of_ble_eq_true rfl) rfl rfl hl.1 (Nat.le_of_ble_eq_true rfl) ⟨(by omega), (by omega)⟩ ⟨(by omega), (by omega)⟩ d_M_bad_17 (fun r u H locs hp hw1 => ?_)
        rw [if_pos ho_17] at hp
        subst hp
        refine W.cs (cells' := 0) (slots' := 0) rfl rfl ?_
        replace hw : WW G A zs ([oM (am 0) [.int th, .int (nI n), .int (nI room), .int (nI Sx), .int (nI Kx), .int (nI rs.length), .ref (am 1), .ref (am 2), .ref (am 3), .ref (am 4), .ref (am 5), .ref (am 6), .ref (am 7), .ref (am 8), .int (nI pm.length), .int (nI E.length), .int (nI S.length), .int (nI md), .int (nI ag), .int (nI (deadN S S.length)), .int (anF ov), .int bw, .ref (am 9), .ref (am 10), .ref (am 11), .ref (am 12), .ref (am 13), .ref (am 14), .ref (am 15), .ref (am 16), .ref (am 17), .ref (am 18), zv 0, zv 1], aI G (am 1) 40 (fa 1), aI G (am 2) 40 (fa 2), aI G (am 3) 40 (fa 3), aI G (am 4) 40 (fa 4), aI G (am 5) 160 (fa 5), aI G (am 6) 160 (fa 6), aZ G (am 7) 64 (fa 7), aI G (am 8) 96 (fa 8), aI G (am 9) 98304 (fa 9), aI G (am 10) 8192 (fa 10), aI G (am 11) 8192 (fa 11), aI G (am 12) 8192 (fa 12), aI G (am 13) 8192 (fa 13), aI G (am 14) 8192 (fa 14), aI G (am 15) 8192 (fa 15), aI G (am 16) 12 (fa 16), aI G (am 17) 12 (fa 17), aI G (am 18) 12 (fa 18)]) H locs := hw1
        refine r_if_ne (tgt := 27) hx hb (by omega) d_M_bad_20 (by decide) (fun c_20 => ?_) (fun c_20 => ?_)
        · skip
          exact absurd ⟨ho_6, ho_17⟩ hbad
        · skip
          exact absurd c_20 (by decide)
      · skip
        refine xS_i (rest := [.ref (am 0)]) (As := [.int y, .int (nI Sx)]) hx hb hml hown hts hK hA hw k_M_113 (c_M_isOf zl G y (nI Sx)) ([]) rfl rfl (fun _ => Nat.le_of_ble_eq_true rfl) rfl rfl hl.1 (Nat.le_of_ble_eq_true rfl) ⟨(by omega), (by omega)⟩ ⟨(by omega), (by omega)⟩ d_M_bad_17 (fun r u H locs hp hw1 => ?_)
        rw [if_neg ho_17] at hp
        subst hp
        refine W.cs (cells' := 0) (slots' := 0) rfl rfl ?_
        replace hw : WW G A zs ([oM (am 0) [.int th, .int (nI n), .int (nI room), .int (nI Sx), .int (nI Kx), .int (nI rs.length), .ref (am 1), .ref (am 2), .ref (am 3), .ref (am 4), .ref (am 5), .ref (am 6), .ref (am 7), .ref (am 8), .int (nI pm.length), .int (nI E.length), .int (nI S.length), .int (nI md), .int (nI ag), .int (nI (deadN S S.length)), .int (anF ov), .int bw, .ref (am 9), .ref (am 10), .ref (am 11), .ref (am 12), .ref (am 13), .ref (am 14), .ref (am 15), .ref (am 16), .ref (am 17), .ref (am 18), zv 0, zv 1], aI G (am 1) 40 (fa 1), aI G (am 2) 40 (fa 2), aI G (am 3) 40 (fa 3), aI G (am 4) 40 (fa 4), aI G (am 5) 160 (fa 5), aI G (am 6) 160 (fa 6), aZ G (am 7) 64 (fa 7), aI G (am 8) 96 (fa 8), aI G (am 9) 98304 (fa 9), aI G (am 10) 8192 (fa 10), aI G (am 11) 8192 (fa 11), aI G (am 12) 8192 (fa 12), aI G (am 13) 8192 (fa 13), aI G (am 14) 8192 (fa 14), aI G (am 15) 8192 (fa 15), aI G (am 16) 12 (fa 16), aI G (am 17) 12 (fa 17), aI G (am 18) 12 (fa 18)]) H locs := hw1
        refine r_if_ne (tgt := 27) hx hb (by omega) d_M_bad_20 (by decide) (fun c_20 => ?_) (fun c_20 => ?_)
        · skip
          exact absurd c_20 (by decide)
        · skip
          refine lv_iconst (v := nI 1) hx hb d_M_bad_23 rfl ?_
          refine lv_goto (tgt := 28) hx hb d_M_bad_24 (by decide) ?_
          refine lv_iconst (v := nI 0) hx hb d_M_bad_28 rfl ?_
          refine xV_i (rest := []) (As := [.int (nI 1), .int (nI 0)]) hx hb hml hown hts hK hA hw k_M_103 (c_M_throwing zl G (am 0) th (nI 1) (nI 0) (.int (nI n)) (.int (nI room)) (.int (nI Sx)) (.int (nI Kx)) (.int (nI rs.length)) (.ref (am 1)) (.ref (am 2)) (.ref (am 3)) (.ref (am 4)) (.ref (am 5)) (.ref (am 6)) (.ref (am 7)) (.ref (am 8)) (.int (nI pm.length)) (.int (nI E.length)) (.int (nI S.length)) (.int (nI md)) (.int (nI ag)) (.int (nI (deadN S S.length))) (.int (anF ov)) (.int bw) (.ref (am 9)) (.ref (am 10)) (.ref (am 11)) (.ref (am 12)) (.ref (am 13)) (.ref (am 14)) (.ref (am 15)) (.ref (am 16)) (.ref (am 17)) (.ref (am 18)) (zv 0) (zv 1)) ([0]) rfl rfl (fun _ => Nat.le_of_ble_eq_true rfl) 0 rfl rfl rfl rfl hl.1 (Nat.le_of_ble_eq_true rfl) ⟨(by omega), (by omega)⟩ ⟨(by omega), (by omega)⟩ d_M_bad_29 (fun r u3 H locs hp hw1 => ?_)
          obtain ⟨rfl, rfl⟩ := hp
          refine W.cs (cells' := 0) (slots' := 0) rfl rfl ?_
          replace hw : WW G A zs ([oM (am 0) [.int (nI 1), .int (nI n), .int (nI room), .int (nI Sx), .int (nI Kx), .int (nI rs.length), .ref (am 1), .ref (am 2), .ref (am 3), .ref (am 4), .ref (am 5), .ref (am 6), .ref (am 7), .ref (am 8), .int (nI pm.length), .int (nI E.length), .int (nI S.length), .int (nI md), .int (nI ag), .int (nI (deadN S S.length)), .int (anF ov), .int bw, .ref (am 9), .ref (am 10), .ref (am 11), .ref (am 12), .ref (am 13), .ref (am 14), .ref (am 15), .ref (am 16), .ref (am 17), .ref (am 18), zv 0, zv 1], aI G (am 1) 40 (fa 1), aI G (am 2) 40 (fa 2), aI G (am 3) 40 (fa 3), aI G (am 4) 40 (fa 4), aI G (am 5) 160 (fa 5), aI G (am 6) 160 (fa 6), aZ G (am 7) 64 (fa 7), aI G (am 8) 96 (fa 8), aI G (am 9) 98304 (fa 9), aI G (am 10) 8192 (fa 10), aI G (am 11) 8192 (fa 11), aI G (am 12) 8192 (fa 12), aI G (am 13) 8192 (fa 13), aI G (am 14) 8192 (fa 14), aI G (am 15) 8192 (fa 15), aI G (am 16) 12 (fa 16), aI G (am 17) 12 (fa 17), aI G (am 18) 12 (fa 18)]) H locs := hw1
          refine r_if_eq (tgt := 37) hx hb (by omega) d_M_bad_32 (by decide) (fun c_32 => ?_) (fun c_32 => ?_)
          · skip
            exact absurd c_32 (by decide)
          · skip
            refine lv_iconst (v := nI 0) hx hb d_M_bad_35 rfl ?_
            exact r_ret hQ (r_zret () hx hb hr hlk hw trivial (by decide) (by omega) (by omega) d_M_bad_36)
  · skip
    refine xS_i (rest := [.ref (am 0)]) (As := [.int x, .int (nI Sx)]) hx hb hml hown hts hK hA hw k_M_113 (c_M_isOf zl G x (nI Sx)) ([]) rfl rfl (fun _ => Nat.le_of_ble_eq_true rfl) rfl rfl hl.1 (Nat.le_of_ble_eq_true rfl) ⟨(by omega), (by omega)⟩ ⟨(by omega), (by omega)⟩ d_M_bad_6 (fun r u H locs hp hw1 => ?_)
    rw [if_neg ho_6] at hp
    subst hp
    refine W.cs (cells' := 0) (slots' := 0) rfl rfl ?_
    replace hw : WW G A zs ([oM (am 0) [.int th, .int (nI n), .int (nI room), .int (nI Sx), .int (nI Kx), .int (nI rs.length), .ref (am 1), .ref (am 2), .ref (am 3), .ref (am 4), .ref (am 5), .ref (am 6), .ref (am 7), .ref (am 8), .int (nI pm.length), .int (nI E.length), .int (nI S.length), .int (nI md), .int (nI ag), .int (nI (deadN S S.length)), .int (anF ov), .int bw, .ref (am 9), .ref (am 10), .ref (am 11), .ref (am 12), .ref (am 13), .ref (am 14), .ref (am 15), .ref (am 16), .ref (am 17), .ref (am 18), zv 0, zv 1], aI G (am 1) 40 (fa 1), aI G (am 2) 40 (fa 2), aI G (am 3) 40 (fa 3), aI G (am 4) 40 (fa 4), aI G (am 5) 160 (fa 5), aI G (am 6) 160 (fa 6), aZ G (am 7) 64 (fa 7), aI G (am 8) 96 (fa 8), aI G (am 9) 98304 (fa 9), aI G (am 10) 8192 (fa 10), aI G (am 11) 8192 (fa 11), aI G (am 12) 8192 (fa 12), aI G (am 13) 8192 (fa 13), aI G (am 14) 8192 (fa 14), aI G (am 15) 8192 (fa 15), aI G (am 16) 12 (fa 16), aI G (am 17) 12 (fa 17), aI G (am 18) 12 (fa 18)]) H locs := hw1
    refine r_if_eq (tgt := 23) hx hb (by omega) d_M_bad_9 (by decide) (fun c_9 => ?_) (fun c_9 => ?_)
    · skip
      refine lv_iconst (v := nI 1) hx hb d_M_bad_23 rfl ?_
      refine lv_goto (tgt := 28) hx hb d_M_bad_24 (by decide) ?_
      refine lv_iconst (v := nI 0) hx hb d_M_bad_28 rfl ?_
      refine xV_i (rest := []) (As := [.int (nI 1), .int (nI 0)]) hx hb hml hown hts hK hA hw k_M_103 (c_M_throwing zl G (am 0) th (nI 1) (nI 0) (.int (nI n)) (.int (nI room)) (.int (nI Sx)) (.int (nI Kx)) (.int (nI rs.length)) (.ref (am 1)) (.ref (am 2)) (.ref (am 3)) (.ref (am 4)) (.ref (am 5)) (.ref (am 6)) (.ref (am 7)) (.ref (am 8)) (.int (nI pm.length)) (.int (nI E.length)) (.int (nI S.length)) (.int (nI md)) (.int (nI ag)) (.int (nI (deadN S S.length))) (.int (anF ov)) (.int bw) (.ref (am 9)) (.ref (am 10)) (.ref (am 11)) (.ref (am 12)) (.ref (am 13)) (.ref (am 14)) (.ref (am 15)) (.ref (am 16)) (.ref (am 17)) (.ref (am 18)) (zv 0) (zv 1)) ([0]) rfl rfl (fun _ => Nat.le_of_ble_eq_true rfl) 0 rfl rfl rfl rfl hl.1 (Nat.le_of_ble_eq_true rfl) ⟨(by omega), (by omega)⟩ ⟨(by omega), (by omega)⟩ d_M_bad_29 (fun r u3 H locs hp hw1 => ?_)
      obtain ⟨rfl, rfl⟩ := hp
      refine W.cs (cells' := 0) (slots' := 0) rfl rfl ?_
      replace hw : WW G A zs ([oM (am 0) [.int (nI 1), .int (nI n), .int (nI room), .int (nI Sx), .int (nI Kx), .int (nI rs.length), .ref (am 1), .ref (am 2), .ref (am 3), .ref (am 4), .ref (am 5), .ref (am 6), .ref (am 7), .ref (am 8), .int (nI pm.length), .int (nI E.length), .int (nI S.length), .int (nI md), .int (nI ag), .int (nI (deadN S S.length)), .int (anF ov), .int bw, .ref (am 9), .ref (am 10), .ref (am 11), .ref (am 12), .ref (am 13), .ref (am 14), .ref (am 15), .ref (am 16), .ref (am 17), .ref (am 18), zv 0, zv 1], aI G (am 1) 40 (fa 1), aI G (am 2) 40 (fa 2), aI G (am 3) 40 (fa 3), aI G (am 4) 40 (fa 4), aI G (am 5) 160 (fa 5), aI G (am 6) 160 (fa 6), aZ G (am 7) 64 (fa 7), aI G (am 8) 96 (fa 8), aI G (am 9) 98304 (fa 9), aI G (am 10) 8192 (fa 10), aI G (am 11) 8192 (fa 11), aI G (am 12) 8192 (fa 12), aI G (am 13) 8192 (fa 13), aI G (am 14) 8192 (fa 14), aI G (am 15) 8192 (fa 15), aI G (am 16) 12 (fa 16), aI G (am 17) 12 (fa 17), aI G (am 18) 12 (fa 18)]) H locs := hw1
      refine r_if_eq (tgt := 37) hx hb (by omega) d_M_bad_32 (by decide) (fun c_32 => ?_) (fun c_32 => ?_)
      · skip
        exact absurd c_32 (by decide)
      · skip
        refine lv_iconst (v := nI 0) hx hb d_M_bad_35 rfl ?_
        exact r_ret hQ (r_zret () hx hb hr hlk hw trivial (by decide) (by omega) (by omega) d_M_bad_36)
    · skip
      exact absurd c_9 (by decide)
set_option maxHeartbeats 4000000 in
set_option maxRecDepth 100000 in
theorem c_M_goX (zl : Launch) (G : GG) (am : Nat → Nat) (fa : Nat → Nat → Int32) (zv : Nat → Value) (th bw : Int32) (n room Sx Kx : Nat) (ps pm : List (List Nat)) (B : Nat → Bool) (rs : List Rl) (E : List Ent) (S : List Nat) (md ag ov : Nat) (x : Int32) (hbad : ¬ (nI 1 ≤ x ∧ x ≤ nI 1000)) : Ctr (S := Unit) vI zl y_M_go b_M_go 3 (Option.some Jvm.ClassFile.FieldType.int) 1 0 0 G [.ref (am 0), .int x] ([oM (am 0) [.int th, .int (nI n), .int (nI room), .int (nI Sx), .int (nI Kx), .int (nI rs.length), .ref (am 1), .ref (am 2), .ref (am 3), .ref (am 4), .ref (am 5), .ref (am 6), .ref (am 7), .ref (am 8), .int (nI pm.length), .int (nI E.length), .int (nI S.length), .int (nI md), .int (nI ag), .int (nI (deadN S S.length)), .int (anF ov), .int bw, .ref (am 9), .ref (am 10), .ref (am 11), .ref (am 12), .ref (am 13), .ref (am 14), .ref (am 15), .ref (am 16), .ref (am 17), .ref (am 18), zv 0, zv 1], aI G (am 1) 40 (fa 1), aI G (am 2) 40 (fa 2), aI G (am 3) 40 (fa 3), aI G (am 4) 40 (fa 4), aI G (am 5) 160 (fa 5), aI G (am 6) 160 (fa 6), aZ G (am 7) 64 (fa 7), aI G (am 8) 96 (fa 8), aI G (am 9) 98304 (fa 9), aI G (am 10) 8192 (fa 10), aI G (am 11) 8192 (fa 11), aI G (am 12) 8192 (fa 12), aI G (am 13) 8192 (fa 13), aI G (am 14) 8192 (fa 14), aI G (am 15) 8192 (fa 15), aI G (am 16) 12 (fa 16), aI G (am 17) 12 (fa 17), aI G (am 18) 12 (fa 18)]) (fun _ _ => True) (fun _ => [oM (am 0) [.int (nI 1), .int (nI n), .int (nI room), .int (nI Sx), .int (nI Kx), .int (nI rs.length), .ref (am 1), .ref (am 2), .ref (am 3), .ref (am 4), .ref (am 5), .ref (am 6), .ref (am 7), .ref (am 8), .int (nI pm.length), .int (nI E.length), .int (nI S.length), .int (nI md), .int (nI ag), .int (nI (deadN S S.length)), .int (anF ov), .int bw, .ref (am 9), .ref (am 10), .ref (am 11), .ref (am 12), .ref (am 13), .ref (am 14), .ref (am 15), .ref (am 16), .ref (am 17), .ref (am 18), zv 0, zv 1], aI G (am 1) 40 (fa 1), aI G (am 2) 40 (fa 2), aI G (am 3) 40 (fa 3), aI G (am 4) 40 (fa 4), aI G (am 5) 160 (fa 5), aI G (am 6) 160 (fa 6), aZ G (am 7) 64 (fa 7), aI G (am 8) 96 (fa 8), aI G (am 9) 98304 (fa 9), aI G (am 10) 8192 (fa 10), aI G (am 11) 8192 (fa 11), aI G (am 12) 8192 (fa 12), aI G (am 13) 8192 (fa 13), aI G (am 14) 8192 (fa 14), aI G (am 15) 8192 (fa 15), aI G (am 16) 12 (fa 16), aI G (am 17) 12 (fa 17), aI G (am 18) 12 (fa 18)]) := by
  refine Ctr.start (by decide) (Nat.le_of_ble_eq_true rfl) ?_
  intro zp ze zs zm below meth zc A ls C0 hin hK hA hl hw
  obtain ⟨hx, hb, hr, hlk, hml, hown, hts⟩ := C0
  obtain ⟨R, hRR⟩ : ∃ R : Room, R = rmL 1 0 0 := ⟨_, rfl⟩
  have hRf : R.frames = 1 := by rw [hRR]
  have hRl : R.locals = 64 * 1 := by rw [hRR]
  have hRc : R.cells = 0 := by rw [hRR]
  have hRs : R.slots = 0 := by rw [hRR]
  rw [← hRR]; clear hRR
  generalize hQ : MQ below _ _ zs _ _ A = Q
  generalize hAr : List.toArray _ = args at hts hQ ⊢
  replace hl : lv_has ls 3 [(0, .ref (am 0)), (1, .int x)] := hl
  obtain ⟨H, eH⟩ : ∃ H : Heap, H = zs.heap := ⟨_, rfl⟩
  obtain ⟨locs, eL⟩ : ∃ l0 : List Loc, l0 = [] := ⟨_, rfl⟩
  rw [← eH, ← eL] at hw ⊢; clear eH eL
  refine lv_aload_n hx hb d_M_go_0 rfl (lv_at hl 0 rfl) ?_
  refine lv_iload_n hx hb d_M_go_1 rfl (lv_at hl 1 rfl) ?_
  refine lv_iconst (v := nI 1) hx hb d_M_go_2 rfl ?_
  refine lv_icmp_lt (tgt := 13) hx hb d_M_go_3 (by decide) (fun c_3 => ?_) (fun c_3 => ?_)
  · skip
    refine lv_iconst (v := nI 1) hx hb d_M_go_13 rfl ?_
    refine lv_goto (tgt := 18) hx hb d_M_go_14 (by decide) ?_
    refine lv_iconst (v := nI 0) hx hb d_M_go_18 rfl ?_
    refine xV_i (rest := []) (As := [.int (nI 1), .int (nI 0)]) hx hb hml hown hts hK hA hw k_M_103 (c_M_throwing zl G (am 0) th (nI 1) (nI 0) (.int (nI n)) (.int (nI room)) (.int (nI Sx)) (.int (nI Kx)) (.int (nI rs.length)) (.ref (am 1)) (.ref (am 2)) (.ref (am 3)) (.ref (am 4)) (.ref (am 5)) (.ref (am 6)) (.ref (am 7)) (.ref (am 8)) (.int (nI pm.length)) (.int (nI E.length)) (.int (nI S.length)) (.int (nI md)) (.int (nI ag)) (.int (nI (deadN S S.length))) (.int (anF ov)) (.int bw) (.ref (am 9)) (.ref (am 10)) (.ref (am 11)) (.ref (am 12)) (.ref (am 13)) (.ref (am 14)) (.ref (am 15)) (.ref (am 16)) (.ref (am 17)) (.ref (am 18)) (zv 0) (zv 1)) ([0]) rfl rfl (fun _ => Nat.le_of_ble_eq_true rfl) 0 rfl rfl rfl rfl hl.1 (Nat.le_of_ble_eq_true rfl) ⟨(by omega), (by omega)⟩ ⟨(by omega), (by omega)⟩ d_M_go_19 (fun r u3 H locs hp hw1 => ?_)
    obtain ⟨rfl, rfl⟩ := hp
    refine W.cs (cells' := 0) (slots' := 0) rfl rfl ?_
    replace hw : WW G A zs ([oM (am 0) [.int (nI 1), .int (nI n), .int (nI room), .int (nI Sx), .int (nI Kx), .int (nI rs.length), .ref (am 1), .ref (am 2), .ref (am 3), .ref (am 4), .ref (am 5), .ref (am 6), .ref (am 7), .ref (am 8), .int (nI pm.length), .int (nI E.length), .int (nI S.length), .int (nI md), .int (nI ag), .int (nI (deadN S S.length)), .int (anF ov), .int bw, .ref (am 9), .ref (am 10), .ref (am 11), .ref (am 12), .ref (am 13), .ref (am 14), .ref (am 15), .ref (am 16), .ref (am 17), .ref (am 18), zv 0, zv 1], aI G (am 1) 40 (fa 1), aI G (am 2) 40 (fa 2), aI G (am 3) 40 (fa 3), aI G (am 4) 40 (fa 4), aI G (am 5) 160 (fa 5), aI G (am 6) 160 (fa 6), aZ G (am 7) 64 (fa 7), aI G (am 8) 96 (fa 8), aI G (am 9) 98304 (fa 9), aI G (am 10) 8192 (fa 10), aI G (am 11) 8192 (fa 11), aI G (am 12) 8192 (fa 12), aI G (am 13) 8192 (fa 13), aI G (am 14) 8192 (fa 14), aI G (am 15) 8192 (fa 15), aI G (am 16) 12 (fa 16), aI G (am 17) 12 (fa 17), aI G (am 18) 12 (fa 18)]) H locs := hw1
    refine r_if_eq (tgt := 27) hx hb (by omega) d_M_go_22 (by decide) (fun c_22 => ?_) (fun c_22 => ?_)
    · skip
      exact absurd c_22 (by decide)
    · skip
      refine lv_iconst (v := nI 0) hx hb d_M_go_25 rfl ?_
      exact r_ret hQ (r_iret () hx hb hr hlk hw trivial (by omega) (by omega) d_M_go_26)
  · skip
    refine lv_iload_n hx hb d_M_go_6 rfl (lv_at hl 1 rfl) ?_
    refine lv_sipush (v := nI 1000) hx hb d_M_go_7 (by decide) ?_
    refine lv_icmp_le (tgt := 17) hx hb d_M_go_10 (by decide) (fun c_10 => ?_) (fun c_10 => ?_)
    · skip
      exact absurd ⟨Int32.not_lt.mp c_3, c_10⟩ hbad
    · skip
      refine lv_iconst (v := nI 1) hx hb d_M_go_13 rfl ?_
      refine lv_goto (tgt := 18) hx hb d_M_go_14 (by decide) ?_
      refine lv_iconst (v := nI 0) hx hb d_M_go_18 rfl ?_
      refine xV_i (rest := []) (As := [.int (nI 1), .int (nI 0)]) hx hb hml hown hts hK hA hw k_M_103 (c_M_throwing zl G (am 0) th (nI 1) (nI 0) (.int (nI n)) (.int (nI room)) (.int (nI Sx)) (.int (nI Kx)) (.int (nI rs.length)) (.ref (am 1)) (.ref (am 2)) (.ref (am 3)) (.ref (am 4)) (.ref (am 5)) (.ref (am 6)) (.ref (am 7)) (.ref (am 8)) (.int (nI pm.length)) (.int (nI E.length)) (.int (nI S.length)) (.int (nI md)) (.int (nI ag)) (.int (nI (deadN S S.length))) (.int (anF ov)) (.int bw) (.ref (am 9)) (.ref (am 10)) (.ref (am 11)) (.ref (am 12)) (.ref (am 13)) (.ref (am 14)) (.ref (am 15)) (.ref (am 16)) (.ref (am 17)) (.ref (am 18)) (zv 0) (zv 1)) ([0]) rfl rfl (fun _ => Nat.le_of_ble_eq_true rfl) 0 rfl rfl rfl rfl hl.1 (Nat.le_of_ble_eq_true rfl) ⟨(by omega), (by omega)⟩ ⟨(by omega), (by omega)⟩ d_M_go_19 (fun r u3 H locs hp hw1 => ?_)
      obtain ⟨rfl, rfl⟩ := hp
      refine W.cs (cells' := 0) (slots' := 0) rfl rfl ?_
      replace hw : WW G A zs ([oM (am 0) [.int (nI 1), .int (nI n), .int (nI room), .int (nI Sx), .int (nI Kx), .int (nI rs.length), .ref (am 1), .ref (am 2), .ref (am 3), .ref (am 4), .ref (am 5), .ref (am 6), .ref (am 7), .ref (am 8), .int (nI pm.length), .int (nI E.length), .int (nI S.length), .int (nI md), .int (nI ag), .int (nI (deadN S S.length)), .int (anF ov), .int bw, .ref (am 9), .ref (am 10), .ref (am 11), .ref (am 12), .ref (am 13), .ref (am 14), .ref (am 15), .ref (am 16), .ref (am 17), .ref (am 18), zv 0, zv 1], aI G (am 1) 40 (fa 1), aI G (am 2) 40 (fa 2), aI G (am 3) 40 (fa 3), aI G (am 4) 40 (fa 4), aI G (am 5) 160 (fa 5), aI G (am 6) 160 (fa 6), aZ G (am 7) 64 (fa 7), aI G (am 8) 96 (fa 8), aI G (am 9) 98304 (fa 9), aI G (am 10) 8192 (fa 10), aI G (am 11) 8192 (fa 11), aI G (am 12) 8192 (fa 12), aI G (am 13) 8192 (fa 13), aI G (am 14) 8192 (fa 14), aI G (am 15) 8192 (fa 15), aI G (am 16) 12 (fa 16), aI G (am 17) 12 (fa 17), aI G (am 18) 12 (fa 18)]) H locs := hw1
      refine r_if_eq (tgt := 27) hx hb (by omega) d_M_go_22 (by decide) (fun c_22 => ?_) (fun c_22 => ?_)
      · skip
        exact absurd c_22 (by decide)
      · skip
        refine lv_iconst (v := nI 0) hx hb d_M_go_25 rfl ?_
        exact r_ret hQ (r_iret () hx hb hr hlk hw trivial (by omega) (by omega) d_M_go_26)
set_option maxHeartbeats 4000000 in
set_option maxRecDepth 100000 in
theorem c_M_node (zl : Launch) (G : GG) (am : Nat → Nat) (fa : Nat → Nat → Int32) (zv : Nat → Value) (th bw : Int32) (n room Sx Kx : Nat) (ps pm : List (List Nat)) (B : Nat → Bool) (rs : List Rl) (E : List Ent) (S : List Nat) (md ag ov : Nat) (k i : Nat) (hE : EOK n room E) (hMR : MR E S fa) (hn4 : n ≤ 4) (hk : k < E.length) (hi : i < n) : Ctr (S := Unit) vI zl y_M_node b_M_node 3 (Option.some Jvm.ClassFile.FieldType.int) 1 0 0 G [.ref (am 0), .int (nI k), .int (nI i)] ([oM (am 0) [.int th, .int (nI n), .int (nI room), .int (nI Sx), .int (nI Kx), .int (nI rs.length), .ref (am 1), .ref (am 2), .ref (am 3), .ref (am 4), .ref (am 5), .ref (am 6), .ref (am 7), .ref (am 8), .int (nI pm.length), .int (nI E.length), .int (nI S.length), .int (nI md), .int (nI ag), .int (nI (deadN S S.length)), .int (anF ov), .int bw, .ref (am 9), .ref (am 10), .ref (am 11), .ref (am 12), .ref (am 13), .ref (am 14), .ref (am 15), .ref (am 16), .ref (am 17), .ref (am 18), zv 0, zv 1], aI G (am 1) 40 (fa 1), aI G (am 2) 40 (fa 2), aI G (am 3) 40 (fa 3), aI G (am 4) 40 (fa 4), aI G (am 5) 160 (fa 5), aI G (am 6) 160 (fa 6), aZ G (am 7) 64 (fa 7), aI G (am 8) 96 (fa 8), aI G (am 9) 98304 (fa 9), aI G (am 10) 8192 (fa 10), aI G (am 11) 8192 (fa 11), aI G (am 12) 8192 (fa 12), aI G (am 13) 8192 (fa 13), aI G (am 14) 8192 (fa 14), aI G (am 15) 8192 (fa 15), aI G (am 16) 12 (fa 16), aI G (am 17) 12 (fa 17), aI G (am 18) 12 (fa 18)]) (fun r _ => r = nI (dg (E.getD k eD).1 i)) (fun _ => [oM (am 0) [.int (nI 0), .int (nI n), .int (nI room), .int (nI Sx), .int (nI Kx), .int (nI rs.length), .ref (am 1), .ref (am 2), .ref (am 3), .ref (am 4), .ref (am 5), .ref (am 6), .ref (am 7), .ref (am 8), .int (nI pm.length), .int (nI E.length), .int (nI S.length), .int (nI md), .int (nI ag), .int (nI (deadN S S.length)), .int (anF ov), .int bw, .ref (am 9), .ref (am 10), .ref (am 11), .ref (am 12), .ref (am 13), .ref (am 14), .ref (am 15), .ref (am 16), .ref (am 17), .ref (am 18), zv 0, zv 1], aI G (am 1) 40 (fa 1), aI G (am 2) 40 (fa 2), aI G (am 3) 40 (fa 3), aI G (am 4) 40 (fa 4), aI G (am 5) 160 (fa 5), aI G (am 6) 160 (fa 6), aZ G (am 7) 64 (fa 7), aI G (am 8) 96 (fa 8), aI G (am 9) 98304 (fa 9), aI G (am 10) 8192 (fa 10), aI G (am 11) 8192 (fa 11), aI G (am 12) 8192 (fa 12), aI G (am 13) 8192 (fa 13), aI G (am 14) 8192 (fa 14), aI G (am 15) 8192 (fa 15), aI G (am 16) 12 (fa 16), aI G (am 17) 12 (fa 17), aI G (am 18) 12 (fa 18)]) := by
  refine Ctr.start (by decide) (Nat.le_of_ble_eq_true rfl) ?_
  intro zp ze zs zm below meth zc A ls C0 hin hK hA hl hw
  obtain ⟨hx, hb, hr, hlk, hml, hown, hts⟩ := C0
  obtain ⟨R, hRR⟩ : ∃ R : Room, R = rmL 1 0 0 := ⟨_, rfl⟩
  have hRf : R.frames = 1 := by rw [hRR]
  have hRl : R.locals = 64 * 1 := by rw [hRR]
  have hRc : R.cells = 0 := by rw [hRR]
  have hRs : R.slots = 0 := by rw [hRR]
  rw [← hRR]; clear hRR
  generalize hQ : MQ below _ _ zs _ _ A = Q
  generalize hAr : List.toArray _ = args at hts hQ ⊢
  replace hl : lv_has ls 3 [(0, .ref (am 0)), (1, .int (nI k)), (2, .int (nI i))] := hl
  obtain ⟨H, eH⟩ : ∃ H : Heap, H = zs.heap := ⟨_, rfl⟩
  obtain ⟨locs, eL⟩ : ∃ l0 : List Loc, l0 = [] := ⟨_, rfl⟩
  rw [← eH, ← eL] at hw ⊢; clear eH eL
  have hE8 := hE.2.2
  refine lv_aload_n hx hb d_M_node_0 rfl (lv_at hl 0 rfl) ?_
  refine lv_iload_n hx hb d_M_node_1 rfl (lv_at hl 1 rfl) ?_
  refine lv_aload_n hx hb d_M_node_2 rfl (lv_at hl 0 rfl) ?_
  refine g_M_82 hx hb hts hown hK hw 0 rfl rfl d_M_node_3 ?_
  refine xS_i (rest := [.ref (am 0)]) (As := [.int (nI k), .int (nI E.length)]) hx hb hml hown hts hK hA hw k_M_113 (c_M_isOf zl G (nI k) (nI E.length)) ([]) rfl rfl (fun _ => Nat.le_of_ble_eq_true rfl) rfl rfl hl.1 (Nat.le_of_ble_eq_true rfl) ⟨(by omega), (by omega)⟩ ⟨(by omega), (by omega)⟩ d_M_node_6 (fun r u H locs hp hw1 => ?_)
  rw [if_pos ⟨nI_pos' (by omega), nI_lt (by omega) (by omega)⟩] at hp
  subst hp
  refine W.cs (cells' := 0) (slots' := 0) rfl rfl ?_
  replace hw : WW G A zs ([oM (am 0) [.int th, .int (nI n), .int (nI room), .int (nI Sx), .int (nI Kx), .int (nI rs.length), .ref (am 1), .ref (am 2), .ref (am 3), .ref (am 4), .ref (am 5), .ref (am 6), .ref (am 7), .ref (am 8), .int (nI pm.length), .int (nI E.length), .int (nI S.length), .int (nI md), .int (nI ag), .int (nI (deadN S S.length)), .int (anF ov), .int bw, .ref (am 9), .ref (am 10), .ref (am 11), .ref (am 12), .ref (am 13), .ref (am 14), .ref (am 15), .ref (am 16), .ref (am 17), .ref (am 18), zv 0, zv 1], aI G (am 1) 40 (fa 1), aI G (am 2) 40 (fa 2), aI G (am 3) 40 (fa 3), aI G (am 4) 40 (fa 4), aI G (am 5) 160 (fa 5), aI G (am 6) 160 (fa 6), aZ G (am 7) 64 (fa 7), aI G (am 8) 96 (fa 8), aI G (am 9) 98304 (fa 9), aI G (am 10) 8192 (fa 10), aI G (am 11) 8192 (fa 11), aI G (am 12) 8192 (fa 12), aI G (am 13) 8192 (fa 13), aI G (am 14) 8192 (fa 14), aI G (am 15) 8192 (fa 15), aI G (am 16) 12 (fa 16), aI G (am 17) 12 (fa 17), aI G (am 18) 12 (fa 18)]) H locs := hw1
  refine r_if_eq (tgt := 23) hx hb (by omega) d_M_node_9 (by decide) (fun c_9 => ?_) (fun c_9 => ?_)
  · skip
    exact absurd c_9 (by decide)
  · skip
    refine lv_iload_n hx hb d_M_node_12 rfl (lv_at hl 2 rfl) ?_
    refine lv_aload_n hx hb d_M_node_13 rfl (lv_at hl 0 rfl) ?_
    refine g_M_70 hx hb hts hown hK hw 0 rfl rfl d_M_node_14 ?_
    refine xS_i (rest := [.ref (am 0)]) (As := [.int (nI i), .int (nI n)]) hx hb hml hown hts hK hA hw k_M_113 (c_M_isOf zl G (nI i) (nI n)) ([]) rfl rfl (fun _ => Nat.le_of_ble_eq_true rfl) rfl rfl hl.1 (Nat.le_of_ble_eq_true rfl) ⟨(by omega), (by omega)⟩ ⟨(by omega), (by omega)⟩ d_M_node_17 (fun r u H locs hp hw1 => ?_)
    rw [if_pos ⟨nI_pos' (by omega), nI_lt (by omega) (by omega)⟩] at hp
    subst hp
    refine W.cs (cells' := 0) (slots' := 0) rfl rfl ?_
    replace hw : WW G A zs ([oM (am 0) [.int th, .int (nI n), .int (nI room), .int (nI Sx), .int (nI Kx), .int (nI rs.length), .ref (am 1), .ref (am 2), .ref (am 3), .ref (am 4), .ref (am 5), .ref (am 6), .ref (am 7), .ref (am 8), .int (nI pm.length), .int (nI E.length), .int (nI S.length), .int (nI md), .int (nI ag), .int (nI (deadN S S.length)), .int (anF ov), .int bw, .ref (am 9), .ref (am 10), .ref (am 11), .ref (am 12), .ref (am 13), .ref (am 14), .ref (am 15), .ref (am 16), .ref (am 17), .ref (am 18), zv 0, zv 1], aI G (am 1) 40 (fa 1), aI G (am 2) 40 (fa 2), aI G (am 3) 40 (fa 3), aI G (am 4) 40 (fa 4), aI G (am 5) 160 (fa 5), aI G (am 6) 160 (fa 6), aZ G (am 7) 64 (fa 7), aI G (am 8) 96 (fa 8), aI G (am 9) 98304 (fa 9), aI G (am 10) 8192 (fa 10), aI G (am 11) 8192 (fa 11), aI G (am 12) 8192 (fa 12), aI G (am 13) 8192 (fa 13), aI G (am 14) 8192 (fa 14), aI G (am 15) 8192 (fa 15), aI G (am 16) 12 (fa 16), aI G (am 17) 12 (fa 17), aI G (am 18) 12 (fa 18)]) H locs := hw1
    refine r_if_ne (tgt := 27) hx hb (by omega) d_M_node_20 (by decide) (fun c_20 => ?_) (fun c_20 => ?_)
    · skip
      refine lv_iconst (v := nI 0) hx hb d_M_node_27 rfl ?_
      refine lv_iconst (v := nI 0) hx hb d_M_node_28 rfl ?_
      refine xV_i (rest := []) (As := [.int (nI 0), .int (nI 0)]) hx hb hml hown hts hK hA hw k_M_103 (c_M_throwing zl G (am 0) th (nI 0) (nI 0) (.int (nI n)) (.int (nI room)) (.int (nI Sx)) (.int (nI Kx)) (.int (nI rs.length)) (.ref (am 1)) (.ref (am 2)) (.ref (am 3)) (.ref (am 4)) (.ref (am 5)) (.ref (am 6)) (.ref (am 7)) (.ref (am 8)) (.int (nI pm.length)) (.int (nI E.length)) (.int (nI S.length)) (.int (nI md)) (.int (nI ag)) (.int (nI (deadN S S.length))) (.int (anF ov)) (.int bw) (.ref (am 9)) (.ref (am 10)) (.ref (am 11)) (.ref (am 12)) (.ref (am 13)) (.ref (am 14)) (.ref (am 15)) (.ref (am 16)) (.ref (am 17)) (.ref (am 18)) (zv 0) (zv 1)) ([0]) rfl rfl (fun _ => Nat.le_of_ble_eq_true rfl) 0 rfl rfl rfl rfl hl.1 (Nat.le_of_ble_eq_true rfl) ⟨(by omega), (by omega)⟩ ⟨(by omega), (by omega)⟩ d_M_node_29 (fun r u3 H locs hp hw1 => ?_)
      obtain ⟨rfl, rfl⟩ := hp
      refine W.cs (cells' := 0) (slots' := 0) rfl rfl ?_
      replace hw : WW G A zs ([oM (am 0) [.int (nI 0), .int (nI n), .int (nI room), .int (nI Sx), .int (nI Kx), .int (nI rs.length), .ref (am 1), .ref (am 2), .ref (am 3), .ref (am 4), .ref (am 5), .ref (am 6), .ref (am 7), .ref (am 8), .int (nI pm.length), .int (nI E.length), .int (nI S.length), .int (nI md), .int (nI ag), .int (nI (deadN S S.length)), .int (anF ov), .int bw, .ref (am 9), .ref (am 10), .ref (am 11), .ref (am 12), .ref (am 13), .ref (am 14), .ref (am 15), .ref (am 16), .ref (am 17), .ref (am 18), zv 0, zv 1], aI G (am 1) 40 (fa 1), aI G (am 2) 40 (fa 2), aI G (am 3) 40 (fa 3), aI G (am 4) 40 (fa 4), aI G (am 5) 160 (fa 5), aI G (am 6) 160 (fa 6), aZ G (am 7) 64 (fa 7), aI G (am 8) 96 (fa 8), aI G (am 9) 98304 (fa 9), aI G (am 10) 8192 (fa 10), aI G (am 11) 8192 (fa 11), aI G (am 12) 8192 (fa 12), aI G (am 13) 8192 (fa 13), aI G (am 14) 8192 (fa 14), aI G (am 15) 8192 (fa 15), aI G (am 16) 12 (fa 16), aI G (am 17) 12 (fa 17), aI G (am 18) 12 (fa 18)]) H locs := hw1
      refine r_if_eq (tgt := 37) hx hb (by omega) d_M_node_32 (by decide) (fun c_32 => ?_) (fun c_32 => ?_)
      · skip
        refine lv_aload_n hx hb d_M_node_37 rfl (lv_at hl 0 rfl) ?_
        refine g_M_40 hx hb hts hown hK hw 0 rfl rfl d_M_node_38 ?_
        refine lv_bipush (v := nI 12) hx hb d_M_node_41 (by decide) ?_
        refine lv_iload_n hx hb d_M_node_43 rfl (lv_at hl 1 rfl) ?_
        refine r_imulN hx hb d_M_node_44 ?_
        refine lv_iload_n hx hb d_M_node_45 rfl (lv_at hl 2 rfl) ?_
        refine r_iaddN hx hb d_M_node_46 ?_
        refine r_iald hx hb hK hw 9 rfl (by omega) (by omega) d_M_node_47 ?_
        refine r_eq (show (fa 9) ((12 * k) + i) = nI (dg (E.getD k eD).1 i) from (hMR.1 k hk).1.st (by omega)) ?_
        exact r_ret hQ (r_iret () hx hb hr hlk hw rfl (by omega) (by omega) d_M_node_48)
      · skip
        exact absurd c_32 (by decide)
    · skip
      exact absurd c_20 (by decide)
set_option maxHeartbeats 4000000 in
set_option maxRecDepth 100000 in
theorem c_M_nodeX (zl : Launch) (G : GG) (am : Nat → Nat) (fa : Nat → Nat → Int32) (zv : Nat → Value) (th bw : Int32) (n room Sx Kx : Nat) (ps pm : List (List Nat)) (B : Nat → Bool) (rs : List Rl) (E : List Ent) (S : List Nat) (md ag ov : Nat) (x y : Int32) (hbad : ¬ ((0 ≤ x ∧ x < nI E.length) ∧ (0 ≤ y ∧ y < nI n))) : Ctr (S := Unit) vI zl y_M_node b_M_node 3 (Option.some Jvm.ClassFile.FieldType.int) 1 0 0 G [.ref (am 0), .int x, .int y] ([oM (am 0) [.int th, .int (nI n), .int (nI room), .int (nI Sx), .int (nI Kx), .int (nI rs.length), .ref (am 1), .ref (am 2), .ref (am 3), .ref (am 4), .ref (am 5), .ref (am 6), .ref (am 7), .ref (am 8), .int (nI pm.length), .int (nI E.length), .int (nI S.length), .int (nI md), .int (nI ag), .int (nI (deadN S S.length)), .int (anF ov), .int bw, .ref (am 9), .ref (am 10), .ref (am 11), .ref (am 12), .ref (am 13), .ref (am 14), .ref (am 15), .ref (am 16), .ref (am 17), .ref (am 18), zv 0, zv 1], aI G (am 1) 40 (fa 1), aI G (am 2) 40 (fa 2), aI G (am 3) 40 (fa 3), aI G (am 4) 40 (fa 4), aI G (am 5) 160 (fa 5), aI G (am 6) 160 (fa 6), aZ G (am 7) 64 (fa 7), aI G (am 8) 96 (fa 8), aI G (am 9) 98304 (fa 9), aI G (am 10) 8192 (fa 10), aI G (am 11) 8192 (fa 11), aI G (am 12) 8192 (fa 12), aI G (am 13) 8192 (fa 13), aI G (am 14) 8192 (fa 14), aI G (am 15) 8192 (fa 15), aI G (am 16) 12 (fa 16), aI G (am 17) 12 (fa 17), aI G (am 18) 12 (fa 18)]) (fun _ _ => True) (fun _ => [oM (am 0) [.int (nI 1), .int (nI n), .int (nI room), .int (nI Sx), .int (nI Kx), .int (nI rs.length), .ref (am 1), .ref (am 2), .ref (am 3), .ref (am 4), .ref (am 5), .ref (am 6), .ref (am 7), .ref (am 8), .int (nI pm.length), .int (nI E.length), .int (nI S.length), .int (nI md), .int (nI ag), .int (nI (deadN S S.length)), .int (anF ov), .int bw, .ref (am 9), .ref (am 10), .ref (am 11), .ref (am 12), .ref (am 13), .ref (am 14), .ref (am 15), .ref (am 16), .ref (am 17), .ref (am 18), zv 0, zv 1], aI G (am 1) 40 (fa 1), aI G (am 2) 40 (fa 2), aI G (am 3) 40 (fa 3), aI G (am 4) 40 (fa 4), aI G (am 5) 160 (fa 5), aI G (am 6) 160 (fa 6), aZ G (am 7) 64 (fa 7), aI G (am 8) 96 (fa 8), aI G (am 9) 98304 (fa 9), aI G (am 10) 8192 (fa 10), aI G (am 11) 8192 (fa 11), aI G (am 12) 8192 (fa 12), aI G (am 13) 8192 (fa 13), aI G (am 14) 8192 (fa 14), aI G (am 15) 8192 (fa 15), aI G (am 16) 12 (fa 16), aI G (am 17) 12 (fa 17), aI G (am 18) 12 (fa 18)]) := by
  refine Ctr.start (by decide) (Nat.le_of_ble_eq_true rfl) ?_
  intro zp ze zs zm below meth zc A ls C0 hin hK hA hl hw
  obtain ⟨hx, hb, hr, hlk, hml, hown, hts⟩ := C0
  obtain ⟨R, hRR⟩ : ∃ R : Room, R = rmL 1 0 0 := ⟨_, rfl⟩
  have hRf : R.frames = 1 := by rw [hRR]
  have hRl : R.locals = 64 * 1 := by rw [hRR]
  have hRc : R.cells = 0 := by rw [hRR]
  have hRs : R.slots = 0 := by rw [hRR]
  rw [← hRR]; clear hRR
  generalize hQ : MQ below _ _ zs _ _ A = Q
  generalize hAr : List.toArray _ = args at hts hQ ⊢
  replace hl : lv_has ls 3 [(0, .ref (am 0)), (1, .int x), (2, .int y)] := hl
  obtain ⟨H, eH⟩ : ∃ H : Heap, H = zs.heap := ⟨_, rfl⟩
  obtain ⟨locs, eL⟩ : ∃ l0 : List Loc, l0 = [] := ⟨_, rfl⟩
  rw [← eH, ← eL] at hw ⊢; clear eH eL
  refine lv_aload_n hx hb d_M_node_0 rfl (lv_at hl 0 rfl) ?_
  refine lv_iload_n hx hb d_M_node_1 rfl (lv_at hl 1 rfl) ?_
  refine lv_aload_n hx hb d_M_node_2 rfl (lv_at hl 0 rfl) ?_
  refine g_M_82 hx hb hts hown hK hw 0 rfl rfl d_M_node_3 ?_
  by_cases ho_6 : 0 ≤ x ∧ x < nI E.length
  · skip
    refine xS_i (rest := [.ref (am 0)]) (As := [.int x, .int (nI E.length)]) hx hb hml hown hts hK hA hw k_M_113 (c_M_isOf zl G x (nI E.length)) ([]) rfl rfl (fun _ => Nat.le_of_ble_eq_true rfl) rfl rfl hl.1 (Nat.le_of_ble_eq_true rfl) ⟨(by omega), (by omega)⟩ ⟨(by omega), (by omega)⟩ d_M_node_6 (fun r u H locs hp hw1 => ?_)
    rw [if_pos ho_6] at hp
    subst hp
    refine W.cs (cells' := 0) (slots' := 0) rfl rfl ?_
    replace hw : WW G A zs ([oM (am 0) [.int th, .int (nI n), .int (nI room), .int (nI Sx), .int (nI Kx), .int (nI rs.length), .ref (am 1), .ref (am 2), .ref (am 3), .ref (am 4), .ref (am 5), .ref (am 6), .ref (am 7), .ref (am 8), .int (nI pm.length), .int (nI E.length), .int (nI S.length), .int (nI md), .int (nI ag), .int (nI (deadN S S.length)), .int (anF ov), .int bw, .ref (am 9), .ref (am 10), .ref (am 11), .ref (am 12), .ref (am 13), .ref (am 14), .ref (am 15), .ref (am 16), .ref (am 17), .ref (am 18), zv 0, zv 1], aI G (am 1) 40 (fa 1), aI G (am 2) 40 (fa 2), aI G (am 3) 40 (fa 3), aI G (am 4) 40 (fa 4), aI G (am 5) 160 (fa 5), aI G (am 6) 160 (fa 6), aZ G (am 7) 64 (fa 7), aI G (am 8) 96 (fa 8), aI G (am 9) 98304 (fa 9), aI G (am 10) 8192 (fa 10), aI G (am 11) 8192 (fa 11), aI G (am 12) 8192 (fa 12), aI G (am 13) 8192 (fa 13), aI G (am 14) 8192 (fa 14), aI G (am 15) 8192 (fa 15), aI G (am 16) 12 (fa 16), aI G (am 17) 12 (fa 17), aI G (am 18) 12 (fa 18)]) H locs := hw1
    refine r_if_eq (tgt := 23) hx hb (by omega) d_M_node_9 (by decide) (fun c_9 => ?_) (fun c_9 => ?_)
    · skip
      exact absurd c_9 (by decide)
    · skip
      refine lv_iload_n hx hb d_M_node_12 rfl (lv_at hl 2 rfl) ?_
      refine lv_aload_n hx hb d_M_node_13 rfl (lv_at hl 0 rfl) ?_
      refine g_M_70 hx hb hts hown hK hw 0 rfl rfl d_M_node_14 ?_
      by_cases ho_17 : 0 ≤ y ∧ y < nI n
      · skip
        refine xS_i (rest := [.ref (am 0)]) (As := [.int y, .int (nI n)]) hx hb hml hown hts hK hA hw k_M_113 (c_M_isOf zl G y (nI n)) ([]) rfl rfl (fun _ => Nat.le_of_ble_eq_true rfl) rfl rfl hl.1 (Nat.le_of_ble_eq_true rfl) ⟨(by omega), (by omega)⟩ ⟨(by omega), (by omega)⟩ d_M_node_17 (fun r u H locs hp hw1 => ?_)
        rw [if_pos ho_17] at hp
        subst hp
        refine W.cs (cells' := 0) (slots' := 0) rfl rfl ?_
        replace hw : WW G A zs ([oM (am 0) [.int th, .int (nI n), .int (nI room), .int (nI Sx), .int (nI Kx), .int (nI rs.length), .ref (am 1), .ref (am 2), .ref (am 3), .ref (am 4), .ref (am 5), .ref (am 6), .ref (am 7), .ref (am 8), .int (nI pm.length), .int (nI E.length), .int (nI S.length), .int (nI md), .int (nI ag), .int (nI (deadN S S.length)), .int (anF ov), .int bw, .ref (am 9), .ref (am 10), .ref (am 11), .ref (am 12), .ref (am 13), .ref (am 14), .ref (am 15), .ref (am 16), .ref (am 17), .ref (am 18), zv 0, zv 1], aI G (am 1) 40 (fa 1), aI G (am 2) 40 (fa 2), aI G (am 3) 40 (fa 3), aI G (am 4) 40 (fa 4), aI G (am 5) 160 (fa 5), aI G (am 6) 160 (fa 6), aZ G (am 7) 64 (fa 7), aI G (am 8) 96 (fa 8), aI G (am 9) 98304 (fa 9), aI G (am 10) 8192 (fa 10), aI G (am 11) 8192 (fa 11), aI G (am 12) 8192 (fa 12), aI G (am 13) 8192 (fa 13), aI G (am 14) 8192 (fa 14), aI G (am 15) 8192 (fa 15), aI G (am 16) 12 (fa 16), aI G (am 17) 12 (fa 17), aI G (am 18) 12 (fa 18)]) H locs := hw1
        refine r_if_ne (tgt := 27) hx hb (by omega) d_M_node_20 (by decide) (fun c_20 => ?_) (fun c_20 => ?_)
        · skip
          exact absurd ⟨ho_6, ho_17⟩ hbad
        · skip
          exact absurd c_20 (by decide)
      · skip
        refine xS_i (rest := [.ref (am 0)]) (As := [.int y, .int (nI n)]) hx hb hml hown hts hK hA hw k_M_113 (c_M_isOf zl G y (nI n)) ([]) rfl rfl (fun _ => Nat.le_of_ble_eq_true rfl) rfl rfl hl.1 (Nat.le_of_ble_eq_true rfl) ⟨(by omega), (by omega)⟩ ⟨(by omega), (by omega)⟩ d_M_node_17 (fun r u H locs hp hw1 => ?_)
        rw [if_neg ho_17] at hp
        subst hp
        refine W.cs (cells' := 0) (slots' := 0) rfl rfl ?_
        replace hw : WW G A zs ([oM (am 0) [.int th, .int (nI n), .int (nI room), .int (nI Sx), .int (nI Kx), .int (nI rs.length), .ref (am 1), .ref (am 2), .ref (am 3), .ref (am 4), .ref (am 5), .ref (am 6), .ref (am 7), .ref (am 8), .int (nI pm.length), .int (nI E.length), .int (nI S.length), .int (nI md), .int (nI ag), .int (nI (deadN S S.length)), .int (anF ov), .int bw, .ref (am 9), .ref (am 10), .ref (am 11), .ref (am 12), .ref (am 13), .ref (am 14), .ref (am 15), .ref (am 16), .ref (am 17), .ref (am 18), zv 0, zv 1], aI G (am 1) 40 (fa 1), aI G (am 2) 40 (fa 2), aI G (am 3) 40 (fa 3), aI G (am 4) 40 (fa 4), aI G (am 5) 160 (fa 5), aI G (am 6) 160 (fa 6), aZ G (am 7) 64 (fa 7), aI G (am 8) 96 (fa 8), aI G (am 9) 98304 (fa 9), aI G (am 10) 8192 (fa 10), aI G (am 11) 8192 (fa 11), aI G (am 12) 8192 (fa 12), aI G (am 13) 8192 (fa 13), aI G (am 14) 8192 (fa 14), aI G (am 15) 8192 (fa 15), aI G (am 16) 12 (fa 16), aI G (am 17) 12 (fa 17), aI G (am 18) 12 (fa 18)]) H locs := hw1
        refine r_if_ne (tgt := 27) hx hb (by omega) d_M_node_20 (by decide) (fun c_20 => ?_) (fun c_20 => ?_)
        · skip
          exact absurd c_20 (by decide)
        · skip
          refine lv_iconst (v := nI 1) hx hb d_M_node_23 rfl ?_
          refine lv_goto (tgt := 28) hx hb d_M_node_24 (by decide) ?_
          refine lv_iconst (v := nI 0) hx hb d_M_node_28 rfl ?_
          refine xV_i (rest := []) (As := [.int (nI 1), .int (nI 0)]) hx hb hml hown hts hK hA hw k_M_103 (c_M_throwing zl G (am 0) th (nI 1) (nI 0) (.int (nI n)) (.int (nI room)) (.int (nI Sx)) (.int (nI Kx)) (.int (nI rs.length)) (.ref (am 1)) (.ref (am 2)) (.ref (am 3)) (.ref (am 4)) (.ref (am 5)) (.ref (am 6)) (.ref (am 7)) (.ref (am 8)) (.int (nI pm.length)) (.int (nI E.length)) (.int (nI S.length)) (.int (nI md)) (.int (nI ag)) (.int (nI (deadN S S.length))) (.int (anF ov)) (.int bw) (.ref (am 9)) (.ref (am 10)) (.ref (am 11)) (.ref (am 12)) (.ref (am 13)) (.ref (am 14)) (.ref (am 15)) (.ref (am 16)) (.ref (am 17)) (.ref (am 18)) (zv 0) (zv 1)) ([0]) rfl rfl (fun _ => Nat.le_of_ble_eq_true rfl) 0 rfl rfl rfl rfl hl.1 (Nat.le_of_ble_eq_true rfl) ⟨(by omega), (by omega)⟩ ⟨(by omega), (by omega)⟩ d_M_node_29 (fun r u3 H locs hp hw1 => ?_)
          obtain ⟨rfl, rfl⟩ := hp
          refine W.cs (cells' := 0) (slots' := 0) rfl rfl ?_
          replace hw : WW G A zs ([oM (am 0) [.int (nI 1), .int (nI n), .int (nI room), .int (nI Sx), .int (nI Kx), .int (nI rs.length), .ref (am 1), .ref (am 2), .ref (am 3), .ref (am 4), .ref (am 5), .ref (am 6), .ref (am 7), .ref (am 8), .int (nI pm.length), .int (nI E.length), .int (nI S.length), .int (nI md), .int (nI ag), .int (nI (deadN S S.length)), .int (anF ov), .int bw, .ref (am 9), .ref (am 10), .ref (am 11), .ref (am 12), .ref (am 13), .ref (am 14), .ref (am 15), .ref (am 16), .ref (am 17), .ref (am 18), zv 0, zv 1], aI G (am 1) 40 (fa 1), aI G (am 2) 40 (fa 2), aI G (am 3) 40 (fa 3), aI G (am 4) 40 (fa 4), aI G (am 5) 160 (fa 5), aI G (am 6) 160 (fa 6), aZ G (am 7) 64 (fa 7), aI G (am 8) 96 (fa 8), aI G (am 9) 98304 (fa 9), aI G (am 10) 8192 (fa 10), aI G (am 11) 8192 (fa 11), aI G (am 12) 8192 (fa 12), aI G (am 13) 8192 (fa 13), aI G (am 14) 8192 (fa 14), aI G (am 15) 8192 (fa 15), aI G (am 16) 12 (fa 16), aI G (am 17) 12 (fa 17), aI G (am 18) 12 (fa 18)]) H locs := hw1
          refine r_if_eq (tgt := 37) hx hb (by omega) d_M_node_32 (by decide) (fun c_32 => ?_) (fun c_32 => ?_)
          · skip
            exact absurd c_32 (by decide)
          · skip
            refine lv_iconst (v := nI 0) hx hb d_M_node_35 rfl ?_
            exact r_ret hQ (r_iret () hx hb hr hlk hw trivial (by omega) (by omega) d_M_node_36)
  · skip
    refine xS_i (rest := [.ref (am 0)]) (As := [.int x, .int (nI E.length)]) hx hb hml hown hts hK hA hw k_M_113 (c_M_isOf zl G x (nI E.length)) ([]) rfl rfl (fun _ => Nat.le_of_ble_eq_true rfl) rfl rfl hl.1 (Nat.le_of_ble_eq_true rfl) ⟨(by omega), (by omega)⟩ ⟨(by omega), (by omega)⟩ d_M_node_6 (fun r u H locs hp hw1 => ?_)
    rw [if_neg ho_6] at hp
    subst hp
    refine W.cs (cells' := 0) (slots' := 0) rfl rfl ?_
    replace hw : WW G A zs ([oM (am 0) [.int th, .int (nI n), .int (nI room), .int (nI Sx), .int (nI Kx), .int (nI rs.length), .ref (am 1), .ref (am 2), .ref (am 3), .ref (am 4), .ref (am 5), .ref (am 6), .ref (am 7), .ref (am 8), .int (nI pm.length), .int (nI E.length), .int (nI S.length), .int (nI md), .int (nI ag), .int (nI (deadN S S.length)), .int (anF ov), .int bw, .ref (am 9), .ref (am 10), .ref (am 11), .ref (am 12), .ref (am 13), .ref (am 14), .ref (am 15), .ref (am 16), .ref (am 17), .ref (am 18), zv 0, zv 1], aI G (am 1) 40 (fa 1), aI G (am 2) 40 (fa 2), aI G (am 3) 40 (fa 3), aI G (am 4) 40 (fa 4), aI G (am 5) 160 (fa 5), aI G (am 6) 160 (fa 6), aZ G (am 7) 64 (fa 7), aI G (am 8) 96 (fa 8), aI G (am 9) 98304 (fa 9), aI G (am 10) 8192 (fa 10), aI G (am 11) 8192 (fa 11), aI G (am 12) 8192 (fa 12), aI G (am 13) 8192 (fa 13), aI G (am 14) 8192 (fa 14), aI G (am 15) 8192 (fa 15), aI G (am 16) 12 (fa 16), aI G (am 17) 12 (fa 17), aI G (am 18) 12 (fa 18)]) H locs := hw1
    refine r_if_eq (tgt := 23) hx hb (by omega) d_M_node_9 (by decide) (fun c_9 => ?_) (fun c_9 => ?_)
    · skip
      refine lv_iconst (v := nI 1) hx hb d_M_node_23 rfl ?_
      refine lv_goto (tgt := 28) hx hb d_M_node_24 (by decide) ?_
      refine lv_iconst (v := nI 0) hx hb d_M_node_28 rfl ?_
      refine xV_i (rest := []) (As := [.int (nI 1), .int (nI 0)]) hx hb hml hown hts hK hA hw k_M_103 (c_M_throwing zl G (am 0) th (nI 1) (nI 0) (.int (nI n)) (.int (nI room)) (.int (nI Sx)) (.int (nI Kx)) (.int (nI rs.length)) (.ref (am 1)) (.ref (am 2)) (.ref (am 3)) (.ref (am 4)) (.ref (am 5)) (.ref (am 6)) (.ref (am 7)) (.ref (am 8)) (.int (nI pm.length)) (.int (nI E.length)) (.int (nI S.length)) (.int (nI md)) (.int (nI ag)) (.int (nI (deadN S S.length))) (.int (anF ov)) (.int bw) (.ref (am 9)) (.ref (am 10)) (.ref (am 11)) (.ref (am 12)) (.ref (am 13)) (.ref (am 14)) (.ref (am 15)) (.ref (am 16)) (.ref (am 17)) (.ref (am 18)) (zv 0) (zv 1)) ([0]) rfl rfl (fun _ => Nat.le_of_ble_eq_true rfl) 0 rfl rfl rfl rfl hl.1 (Nat.le_of_ble_eq_true rfl) ⟨(by omega), (by omega)⟩ ⟨(by omega), (by omega)⟩ d_M_node_29 (fun r u3 H locs hp hw1 => ?_)
      obtain ⟨rfl, rfl⟩ := hp
      refine W.cs (cells' := 0) (slots' := 0) rfl rfl ?_
      replace hw : WW G A zs ([oM (am 0) [.int (nI 1), .int (nI n), .int (nI room), .int (nI Sx), .int (nI Kx), .int (nI rs.length), .ref (am 1), .ref (am 2), .ref (am 3), .ref (am 4), .ref (am 5), .ref (am 6), .ref (am 7), .ref (am 8), .int (nI pm.length), .int (nI E.length), .int (nI S.length), .int (nI md), .int (nI ag), .int (nI (deadN S S.length)), .int (anF ov), .int bw, .ref (am 9), .ref (am 10), .ref (am 11), .ref (am 12), .ref (am 13), .ref (am 14), .ref (am 15), .ref (am 16), .ref (am 17), .ref (am 18), zv 0, zv 1], aI G (am 1) 40 (fa 1), aI G (am 2) 40 (fa 2), aI G (am 3) 40 (fa 3), aI G (am 4) 40 (fa 4), aI G (am 5) 160 (fa 5), aI G (am 6) 160 (fa 6), aZ G (am 7) 64 (fa 7), aI G (am 8) 96 (fa 8), aI G (am 9) 98304 (fa 9), aI G (am 10) 8192 (fa 10), aI G (am 11) 8192 (fa 11), aI G (am 12) 8192 (fa 12), aI G (am 13) 8192 (fa 13), aI G (am 14) 8192 (fa 14), aI G (am 15) 8192 (fa 15), aI G (am 16) 12 (fa 16), aI G (am 17) 12 (fa 17), aI G (am 18) 12 (fa 18)]) H locs := hw1
      refine r_if_eq (tgt := 37) hx hb (by omega) d_M_node_32 (by decide) (fun c_32 => ?_) (fun c_32 => ?_)
      · skip
        exact absurd c_32 (by decide)
      · skip
        refine lv_iconst (v := nI 0) hx hb d_M_node_35 rfl ?_
        exact r_ret hQ (r_iret () hx hb hr hlk hw trivial (by omega) (by omega) d_M_node_36)
    · skip
      exact absurd c_9 (by decide)
set_option maxHeartbeats 4000000 in
set_option maxRecDepth 100000 in
theorem c_M_code (zl : Launch) (G : GG) (am : Nat → Nat) (fa : Nat → Nat → Int32) (zv : Nat → Value) (th bw : Int32) (n room Sx Kx : Nat) (ps pm : List (List Nat)) (B : Nat → Bool) (rs : List Rl) (E : List Ent) (S : List Nat) (md ag ov : Nat) (k i : Nat) (hE : EOK n room E) (hMR : MR E S fa) (hk : k < E.length) (hi : i < (E.getD k eD).1.2.length) : Ctr (S := Unit) vI zl y_M_code b_M_code 3 (Option.some Jvm.ClassFile.FieldType.int) 1 0 0 G [.ref (am 0), .int (nI k), .int (nI i)] ([oM (am 0) [.int th, .int (nI n), .int (nI room), .int (nI Sx), .int (nI Kx), .int (nI rs.length), .ref (am 1), .ref (am 2), .ref (am 3), .ref (am 4), .ref (am 5), .ref (am 6), .ref (am 7), .ref (am 8), .int (nI pm.length), .int (nI E.length), .int (nI S.length), .int (nI md), .int (nI ag), .int (nI (deadN S S.length)), .int (anF ov), .int bw, .ref (am 9), .ref (am 10), .ref (am 11), .ref (am 12), .ref (am 13), .ref (am 14), .ref (am 15), .ref (am 16), .ref (am 17), .ref (am 18), zv 0, zv 1], aI G (am 1) 40 (fa 1), aI G (am 2) 40 (fa 2), aI G (am 3) 40 (fa 3), aI G (am 4) 40 (fa 4), aI G (am 5) 160 (fa 5), aI G (am 6) 160 (fa 6), aZ G (am 7) 64 (fa 7), aI G (am 8) 96 (fa 8), aI G (am 9) 98304 (fa 9), aI G (am 10) 8192 (fa 10), aI G (am 11) 8192 (fa 11), aI G (am 12) 8192 (fa 12), aI G (am 13) 8192 (fa 13), aI G (am 14) 8192 (fa 14), aI G (am 15) 8192 (fa 15), aI G (am 16) 12 (fa 16), aI G (am 17) 12 (fa 17), aI G (am 18) 12 (fa 18)]) (fun r _ => r = nI ((E.getD k eD).1.2.getD i 0)) (fun _ => [oM (am 0) [.int (nI 0), .int (nI n), .int (nI room), .int (nI Sx), .int (nI Kx), .int (nI rs.length), .ref (am 1), .ref (am 2), .ref (am 3), .ref (am 4), .ref (am 5), .ref (am 6), .ref (am 7), .ref (am 8), .int (nI pm.length), .int (nI E.length), .int (nI S.length), .int (nI md), .int (nI ag), .int (nI (deadN S S.length)), .int (anF ov), .int bw, .ref (am 9), .ref (am 10), .ref (am 11), .ref (am 12), .ref (am 13), .ref (am 14), .ref (am 15), .ref (am 16), .ref (am 17), .ref (am 18), zv 0, zv 1], aI G (am 1) 40 (fa 1), aI G (am 2) 40 (fa 2), aI G (am 3) 40 (fa 3), aI G (am 4) 40 (fa 4), aI G (am 5) 160 (fa 5), aI G (am 6) 160 (fa 6), aZ G (am 7) 64 (fa 7), aI G (am 8) 96 (fa 8), aI G (am 9) 98304 (fa 9), aI G (am 10) 8192 (fa 10), aI G (am 11) 8192 (fa 11), aI G (am 12) 8192 (fa 12), aI G (am 13) 8192 (fa 13), aI G (am 14) 8192 (fa 14), aI G (am 15) 8192 (fa 15), aI G (am 16) 12 (fa 16), aI G (am 17) 12 (fa 17), aI G (am 18) 12 (fa 18)]) := by
  refine Ctr.start (by decide) (Nat.le_of_ble_eq_true rfl) ?_
  intro zp ze zs zm below meth zc A ls C0 hin hK hA hl hw
  obtain ⟨hx, hb, hr, hlk, hml, hown, hts⟩ := C0
  obtain ⟨R, hRR⟩ : ∃ R : Room, R = rmL 1 0 0 := ⟨_, rfl⟩
  have hRf : R.frames = 1 := by rw [hRR]
  have hRl : R.locals = 64 * 1 := by rw [hRR]
  have hRc : R.cells = 0 := by rw [hRR]
  have hRs : R.slots = 0 := by rw [hRR]
  rw [← hRR]; clear hRR
  generalize hQ : MQ below _ _ zs _ _ A = Q
  generalize hAr : List.toArray _ = args at hts hQ ⊢
  replace hl : lv_has ls 3 [(0, .ref (am 0)), (1, .int (nI k)), (2, .int (nI i))] := hl
  obtain ⟨H, eH⟩ : ∃ H : Heap, H = zs.heap := ⟨_, rfl⟩
  obtain ⟨locs, eL⟩ : ∃ l0 : List Loc, l0 = [] := ⟨_, rfl⟩
  rw [← eH, ← eL] at hw ⊢; clear eH eL
  have hE8 := hE.2.2
  have h7 := (hE.1 _ (getD_memE hk)).2.2.2.1
  have hrow := (hMR.1 k hk).1
  refine lv_aload_n hx hb d_M_code_0 rfl (lv_at hl 0 rfl) ?_
  refine lv_iload_n hx hb d_M_code_1 rfl (lv_at hl 1 rfl) ?_
  refine lv_aload_n hx hb d_M_code_2 rfl (lv_at hl 0 rfl) ?_
  refine g_M_82 hx hb hts hown hK hw 0 rfl rfl d_M_code_3 ?_
  refine xS_i (rest := [.ref (am 0)]) (As := [.int (nI k), .int (nI E.length)]) hx hb hml hown hts hK hA hw k_M_113 (c_M_isOf zl G (nI k) (nI E.length)) ([]) rfl rfl (fun _ => Nat.le_of_ble_eq_true rfl) rfl rfl hl.1 (Nat.le_of_ble_eq_true rfl) ⟨(by omega), (by omega)⟩ ⟨(by omega), (by omega)⟩ d_M_code_6 (fun r u H locs hp hw1 => ?_)
  rw [if_pos ⟨nI_pos' (by omega), nI_lt (by omega) (by omega)⟩] at hp
  subst hp
  refine W.cs (cells' := 0) (slots' := 0) rfl rfl ?_
  replace hw : WW G A zs ([oM (am 0) [.int th, .int (nI n), .int (nI room), .int (nI Sx), .int (nI Kx), .int (nI rs.length), .ref (am 1), .ref (am 2), .ref (am 3), .ref (am 4), .ref (am 5), .ref (am 6), .ref (am 7), .ref (am 8), .int (nI pm.length), .int (nI E.length), .int (nI S.length), .int (nI md), .int (nI ag), .int (nI (deadN S S.length)), .int (anF ov), .int bw, .ref (am 9), .ref (am 10), .ref (am 11), .ref (am 12), .ref (am 13), .ref (am 14), .ref (am 15), .ref (am 16), .ref (am 17), .ref (am 18), zv 0, zv 1], aI G (am 1) 40 (fa 1), aI G (am 2) 40 (fa 2), aI G (am 3) 40 (fa 3), aI G (am 4) 40 (fa 4), aI G (am 5) 160 (fa 5), aI G (am 6) 160 (fa 6), aZ G (am 7) 64 (fa 7), aI G (am 8) 96 (fa 8), aI G (am 9) 98304 (fa 9), aI G (am 10) 8192 (fa 10), aI G (am 11) 8192 (fa 11), aI G (am 12) 8192 (fa 12), aI G (am 13) 8192 (fa 13), aI G (am 14) 8192 (fa 14), aI G (am 15) 8192 (fa 15), aI G (am 16) 12 (fa 16), aI G (am 17) 12 (fa 17), aI G (am 18) 12 (fa 18)]) H locs := hw1
  refine r_if_eq (tgt := 45) hx hb (by omega) d_M_code_9 (by decide) (fun c_9 => ?_) (fun c_9 => ?_)
  · skip
    exact absurd c_9 (by decide)
  · skip
    refine lv_iload_n hx hb d_M_code_12 rfl (lv_at hl 2 rfl) ?_
    refine lv_iload_n hx hb d_M_code_13 rfl (lv_at hl 1 rfl) ?_
    refine lv_aload_n hx hb d_M_code_14 rfl (lv_at hl 0 rfl) ?_
    refine g_M_82 hx hb hts hown hK hw 0 rfl rfl d_M_code_15 ?_
    refine xS_i (rest := [.int (nI i), .ref (am 0)]) (As := [.int (nI k), .int (nI E.length)]) hx hb hml hown hts hK hA hw k_M_113 (c_M_isOf zl G (nI k) (nI E.length)) ([]) rfl rfl (fun _ => Nat.le_of_ble_eq_true rfl) rfl rfl hl.1 (Nat.le_of_ble_eq_true rfl) ⟨(by omega), (by omega)⟩ ⟨(by omega), (by omega)⟩ d_M_code_18 (fun r u H locs hp hw1 => ?_)
    rw [if_pos ⟨nI_pos' (by omega), nI_lt (by omega) (by omega)⟩] at hp
    subst hp
    refine W.cs (cells' := 0) (slots' := 0) rfl rfl ?_
    replace hw : WW G A zs ([oM (am 0) [.int th, .int (nI n), .int (nI room), .int (nI Sx), .int (nI Kx), .int (nI rs.length), .ref (am 1), .ref (am 2), .ref (am 3), .ref (am 4), .ref (am 5), .ref (am 6), .ref (am 7), .ref (am 8), .int (nI pm.length), .int (nI E.length), .int (nI S.length), .int (nI md), .int (nI ag), .int (nI (deadN S S.length)), .int (anF ov), .int bw, .ref (am 9), .ref (am 10), .ref (am 11), .ref (am 12), .ref (am 13), .ref (am 14), .ref (am 15), .ref (am 16), .ref (am 17), .ref (am 18), zv 0, zv 1], aI G (am 1) 40 (fa 1), aI G (am 2) 40 (fa 2), aI G (am 3) 40 (fa 3), aI G (am 4) 40 (fa 4), aI G (am 5) 160 (fa 5), aI G (am 6) 160 (fa 6), aZ G (am 7) 64 (fa 7), aI G (am 8) 96 (fa 8), aI G (am 9) 98304 (fa 9), aI G (am 10) 8192 (fa 10), aI G (am 11) 8192 (fa 11), aI G (am 12) 8192 (fa 12), aI G (am 13) 8192 (fa 13), aI G (am 14) 8192 (fa 14), aI G (am 15) 8192 (fa 15), aI G (am 16) 12 (fa 16), aI G (am 17) 12 (fa 17), aI G (am 18) 12 (fa 18)]) H locs := hw1
    refine r_if_eq (tgt := 38) hx hb (by omega) d_M_code_21 (by decide) (fun c_21 => ?_) (fun c_21 => ?_)
    · skip
      exact absurd c_21 (by decide)
    · skip
      refine lv_aload_n hx hb d_M_code_24 rfl (lv_at hl 0 rfl) ?_
      refine g_M_40 hx hb hts hown hK hw 0 rfl rfl d_M_code_25 ?_
      refine lv_bipush (v := nI 12) hx hb d_M_code_28 (by decide) ?_
      refine lv_iload_n hx hb d_M_code_30 rfl (lv_at hl 1 rfl) ?_
      refine r_imulN hx hb d_M_code_31 ?_
      refine lv_iconst (v := nI 4) hx hb d_M_code_32 rfl ?_
      refine r_iaddN hx hb d_M_code_33 ?_
      refine r_iald hx hb hK hw 9 rfl (by omega) (by omega) d_M_code_34 ?_
      refine r_eq (show (fa 9) ((12 * k) + 4) = nI ((E.getD k eD).1.2.length) from hrow.n) ?_
      refine lv_goto (tgt := 39) hx hb d_M_code_35 (by decide) ?_
      refine xS_i (rest := [.ref (am 0)]) (As := [.int (nI i), .int (nI ((E.getD k eD).1.2.length))]) hx hb hml hown hts hK hA hw k_M_113 (c_M_isOf zl G (nI i) (nI ((E.getD k eD).1.2.length))) ([]) rfl rfl (fun _ => Nat.le_of_ble_eq_true rfl) rfl rfl hl.1 (Nat.le_of_ble_eq_true rfl) ⟨(by omega), (by omega)⟩ ⟨(by omega), (by omega)⟩ d_M_code_39 (fun r u H locs hp hw1 => ?_)
      rw [if_pos ⟨nI_pos' (by omega), nI_lt (by omega) (by omega)⟩] at hp
      subst hp
      refine W.cs (cells' := 0) (slots' := 0) rfl rfl ?_
      replace hw : WW G A zs ([oM (am 0) [.int th, .int (nI n), .int (nI room), .int (nI Sx), .int (nI Kx), .int (nI rs.length), .ref (am 1), .ref (am 2), .ref (am 3), .ref (am 4), .ref (am 5), .ref (am 6), .ref (am 7), .ref (am 8), .int (nI pm.length), .int (nI E.length), .int (nI S.length), .int (nI md), .int (nI ag), .int (nI (deadN S S.length)), .int (anF ov), .int bw, .ref (am 9), .ref (am 10), .ref (am 11), .ref (am 12), .ref (am 13), .ref (am 14), .ref (am 15), .ref (am 16), .ref (am 17), .ref (am 18), zv 0, zv 1], aI G (am 1) 40 (fa 1), aI G (am 2) 40 (fa 2), aI G (am 3) 40 (fa 3), aI G (am 4) 40 (fa 4), aI G (am 5) 160 (fa 5), aI G (am 6) 160 (fa 6), aZ G (am 7) 64 (fa 7), aI G (am 8) 96 (fa 8), aI G (am 9) 98304 (fa 9), aI G (am 10) 8192 (fa 10), aI G (am 11) 8192 (fa 11), aI G (am 12) 8192 (fa 12), aI G (am 13) 8192 (fa 13), aI G (am 14) 8192 (fa 14), aI G (am 15) 8192 (fa 15), aI G (am 16) 12 (fa 16), aI G (am 17) 12 (fa 17), aI G (am 18) 12 (fa 18)]) H locs := hw1
      refine r_if_ne (tgt := 49) hx hb (by omega) d_M_code_42 (by decide) (fun c_42 => ?_) (fun c_42 => ?_)
      · skip
        refine lv_iconst (v := nI 0) hx hb d_M_code_49 rfl ?_
        refine lv_iconst (v := nI 0) hx hb d_M_code_50 rfl ?_
        refine xV_i (rest := []) (As := [.int (nI 0), .int (nI 0)]) hx hb hml hown hts hK hA hw k_M_103 (c_M_throwing zl G (am 0) th (nI 0) (nI 0) (.int (nI n)) (.int (nI room)) (.int (nI Sx)) (.int (nI Kx)) (.int (nI rs.length)) (.ref (am 1)) (.ref (am 2)) (.ref (am 3)) (.ref (am 4)) (.ref (am 5)) (.ref (am 6)) (.ref (am 7)) (.ref (am 8)) (.int (nI pm.length)) (.int (nI E.length)) (.int (nI S.length)) (.int (nI md)) (.int (nI ag)) (.int (nI (deadN S S.length))) (.int (anF ov)) (.int bw) (.ref (am 9)) (.ref (am 10)) (.ref (am 11)) (.ref (am 12)) (.ref (am 13)) (.ref (am 14)) (.ref (am 15)) (.ref (am 16)) (.ref (am 17)) (.ref (am 18)) (zv 0) (zv 1)) ([0]) rfl rfl (fun _ => Nat.le_of_ble_eq_true rfl) 0 rfl rfl rfl rfl hl.1 (Nat.le_of_ble_eq_true rfl) ⟨(by omega), (by omega)⟩ ⟨(by omega), (by omega)⟩ d_M_code_51 (fun r u3 H locs hp hw1 => ?_)
        obtain ⟨rfl, rfl⟩ := hp
        refine W.cs (cells' := 0) (slots' := 0) rfl rfl ?_
        replace hw : WW G A zs ([oM (am 0) [.int (nI 0), .int (nI n), .int (nI room), .int (nI Sx), .int (nI Kx), .int (nI rs.length), .ref (am 1), .ref (am 2), .ref (am 3), .ref (am 4), .ref (am 5), .ref (am 6), .ref (am 7), .ref (am 8), .int (nI pm.length), .int (nI E.length), .int (nI S.length), .int (nI md), .int (nI ag), .int (nI (deadN S S.length)), .int (anF ov), .int bw, .ref (am 9), .ref (am 10), .ref (am 11), .ref (am 12), .ref (am 13), .ref (am 14), .ref (am 15), .ref (am 16), .ref (am 17), .ref (am 18), zv 0, zv 1], aI G (am 1) 40 (fa 1), aI G (am 2) 40 (fa 2), aI G (am 3) 40 (fa 3), aI G (am 4) 40 (fa 4), aI G (am 5) 160 (fa 5), aI G (am 6) 160 (fa 6), aZ G (am 7) 64 (fa 7), aI G (am 8) 96 (fa 8), aI G (am 9) 98304 (fa 9), aI G (am 10) 8192 (fa 10), aI G (am 11) 8192 (fa 11), aI G (am 12) 8192 (fa 12), aI G (am 13) 8192 (fa 13), aI G (am 14) 8192 (fa 14), aI G (am 15) 8192 (fa 15), aI G (am 16) 12 (fa 16), aI G (am 17) 12 (fa 17), aI G (am 18) 12 (fa 18)]) H locs := hw1
        refine r_if_eq (tgt := 59) hx hb (by omega) d_M_code_54 (by decide) (fun c_54 => ?_) (fun c_54 => ?_)
        · skip
          refine lv_aload_n hx hb d_M_code_59 rfl (lv_at hl 0 rfl) ?_
          refine g_M_40 hx hb hts hown hK hw 0 rfl rfl d_M_code_60 ?_
          refine lv_bipush (v := nI 12) hx hb d_M_code_63 (by decide) ?_
          refine lv_iload_n hx hb d_M_code_65 rfl (lv_at hl 1 rfl) ?_
          refine r_imulN hx hb d_M_code_66 ?_
          refine lv_iconst (v := nI 5) hx hb d_M_code_67 rfl ?_
          refine r_iaddN hx hb d_M_code_68 ?_
          refine lv_iload_n hx hb d_M_code_69 rfl (lv_at hl 2 rfl) ?_
          refine r_iaddN hx hb d_M_code_70 ?_
          refine r_iald hx hb hK hw 9 rfl (by omega) (by omega) d_M_code_71 ?_
          refine r_eq (show (fa 9) (((12 * k) + 5) + i) = nI ((E.getD k eD).1.2.getD i 0) from hrow.cd hi) ?_
          exact r_ret hQ (r_iret () hx hb hr hlk hw rfl (by omega) (by omega) d_M_code_72)
        · skip
          exact absurd c_54 (by decide)
      · skip
        exact absurd c_42 (by decide)
set_option maxHeartbeats 4000000 in
set_option maxRecDepth 100000 in
theorem c_M_codeX (zl : Launch) (G : GG) (am : Nat → Nat) (fa : Nat → Nat → Int32) (zv : Nat → Value) (th bw : Int32) (n room Sx Kx : Nat) (ps pm : List (List Nat)) (B : Nat → Bool) (rs : List Rl) (E : List Ent) (S : List Nat) (md ag ov : Nat) (x y : Int32) (hbad : ¬ (0 ≤ x ∧ x < nI E.length)) : Ctr (S := Unit) vI zl y_M_code b_M_code 3 (Option.some Jvm.ClassFile.FieldType.int) 1 0 0 G [.ref (am 0), .int x, .int y] ([oM (am 0) [.int th, .int (nI n), .int (nI room), .int (nI Sx), .int (nI Kx), .int (nI rs.length), .ref (am 1), .ref (am 2), .ref (am 3), .ref (am 4), .ref (am 5), .ref (am 6), .ref (am 7), .ref (am 8), .int (nI pm.length), .int (nI E.length), .int (nI S.length), .int (nI md), .int (nI ag), .int (nI (deadN S S.length)), .int (anF ov), .int bw, .ref (am 9), .ref (am 10), .ref (am 11), .ref (am 12), .ref (am 13), .ref (am 14), .ref (am 15), .ref (am 16), .ref (am 17), .ref (am 18), zv 0, zv 1], aI G (am 1) 40 (fa 1), aI G (am 2) 40 (fa 2), aI G (am 3) 40 (fa 3), aI G (am 4) 40 (fa 4), aI G (am 5) 160 (fa 5), aI G (am 6) 160 (fa 6), aZ G (am 7) 64 (fa 7), aI G (am 8) 96 (fa 8), aI G (am 9) 98304 (fa 9), aI G (am 10) 8192 (fa 10), aI G (am 11) 8192 (fa 11), aI G (am 12) 8192 (fa 12), aI G (am 13) 8192 (fa 13), aI G (am 14) 8192 (fa 14), aI G (am 15) 8192 (fa 15), aI G (am 16) 12 (fa 16), aI G (am 17) 12 (fa 17), aI G (am 18) 12 (fa 18)]) (fun _ _ => True) (fun _ => [oM (am 0) [.int (nI 1), .int (nI n), .int (nI room), .int (nI Sx), .int (nI Kx), .int (nI rs.length), .ref (am 1), .ref (am 2), .ref (am 3), .ref (am 4), .ref (am 5), .ref (am 6), .ref (am 7), .ref (am 8), .int (nI pm.length), .int (nI E.length), .int (nI S.length), .int (nI md), .int (nI ag), .int (nI (deadN S S.length)), .int (anF ov), .int bw, .ref (am 9), .ref (am 10), .ref (am 11), .ref (am 12), .ref (am 13), .ref (am 14), .ref (am 15), .ref (am 16), .ref (am 17), .ref (am 18), zv 0, zv 1], aI G (am 1) 40 (fa 1), aI G (am 2) 40 (fa 2), aI G (am 3) 40 (fa 3), aI G (am 4) 40 (fa 4), aI G (am 5) 160 (fa 5), aI G (am 6) 160 (fa 6), aZ G (am 7) 64 (fa 7), aI G (am 8) 96 (fa 8), aI G (am 9) 98304 (fa 9), aI G (am 10) 8192 (fa 10), aI G (am 11) 8192 (fa 11), aI G (am 12) 8192 (fa 12), aI G (am 13) 8192 (fa 13), aI G (am 14) 8192 (fa 14), aI G (am 15) 8192 (fa 15), aI G (am 16) 12 (fa 16), aI G (am 17) 12 (fa 17), aI G (am 18) 12 (fa 18)]) := by
  refine Ctr.start (by decide) (Nat.le_of_ble_eq_true rfl) ?_
  intro zp ze zs zm below meth zc A ls C0 hin hK hA hl hw
  obtain ⟨hx, hb, hr, hlk, hml, hown, hts⟩ := C0
  obtain ⟨R, hRR⟩ : ∃ R : Room, R = rmL 1 0 0 := ⟨_, rfl⟩
  have hRf : R.frames = 1 := by rw [hRR]
  have hRl : R.locals = 64 * 1 := by rw [hRR]
  have hRc : R.cells = 0 := by rw [hRR]
  have hRs : R.slots = 0 := by rw [hRR]
  rw [← hRR]; clear hRR
  generalize hQ : MQ below _ _ zs _ _ A = Q
  generalize hAr : List.toArray _ = args at hts hQ ⊢
  replace hl : lv_has ls 3 [(0, .ref (am 0)), (1, .int x), (2, .int y)] := hl
  obtain ⟨H, eH⟩ : ∃ H : Heap, H = zs.heap := ⟨_, rfl⟩
  obtain ⟨locs, eL⟩ : ∃ l0 : List Loc, l0 = [] := ⟨_, rfl⟩
  rw [← eH, ← eL] at hw ⊢; clear eH eL
  refine lv_aload_n hx hb d_M_code_0 rfl (lv_at hl 0 rfl) ?_
  refine lv_iload_n hx hb d_M_code_1 rfl (lv_at hl 1 rfl) ?_
  refine lv_aload_n hx hb d_M_code_2 rfl (lv_at hl 0 rfl) ?_
  refine g_M_82 hx hb hts hown hK hw 0 rfl rfl d_M_code_3 ?_
  by_cases ho_6 : 0 ≤ x ∧ x < nI E.length
  · skip
    refine xS_i (rest := [.ref (am 0)]) (As := [.int x, .int (nI E.length)]) hx hb hml hown hts hK hA hw k_M_113 (c_M_isOf zl G x (nI E.length)) ([]) rfl rfl (fun _ => Nat.le_of_ble_eq_true rfl) rfl rfl hl.1 (Nat.le_of_ble_eq_true rfl) ⟨(by omega), (by omega)⟩ ⟨(by omega), (by omega)⟩ d_M_code_6 (fun r u H locs hp hw1 => ?_)
    rw [if_pos ho_6] at hp
    subst hp
    refine W.cs (cells' := 0) (slots' := 0) rfl rfl ?_
    replace hw : WW G A zs ([oM (am 0) [.int th, .int (nI n), .int (nI room), .int (nI Sx), .int (nI Kx), .int (nI rs.length), .ref (am 1), .ref (am 2), .ref (am 3), .ref (am 4), .ref (am 5), .ref (am 6), .ref (am 7), .ref (am 8), .int (nI pm.length), .int (nI E.length), .int (nI S.length), .int (nI md), .int (nI ag), .int (nI (deadN S S.length)), .int (anF ov), .int bw, .ref (am 9), .ref (am 10), .ref (am 11), .ref (am 12), .ref (am 13), .ref (am 14), .ref (am 15), .ref (am 16), .ref (am 17), .ref (am 18), zv 0, zv 1], aI G (am 1) 40 (fa 1), aI G (am 2) 40 (fa 2), aI G (am 3) 40 (fa 3), aI G (am 4) 40 (fa 4), aI G (am 5) 160 (fa 5), aI G (am 6) 160 (fa 6), aZ G (am 7) 64 (fa 7), aI G (am 8) 96 (fa 8), aI G (am 9) 98304 (fa 9), aI G (am 10) 8192 (fa 10), aI G (am 11) 8192 (fa 11), aI G (am 12) 8192 (fa 12), aI G (am 13) 8192 (fa 13), aI G (am 14) 8192 (fa 14), aI G (am 15) 8192 (fa 15), aI G (am 16) 12 (fa 16), aI G (am 17) 12 (fa 17), aI G (am 18) 12 (fa 18)]) H locs := hw1
    refine r_if_eq (tgt := 45) hx hb (by omega) d_M_code_9 (by decide) (fun c_9 => ?_) (fun c_9 => ?_)
    · skip
      exact absurd c_9 (by decide)
    · skip
      exact absurd ho_6 hbad
  · skip
    refine xS_i (rest := [.ref (am 0)]) (As := [.int x, .int (nI E.length)]) hx hb hml hown hts hK hA hw k_M_113 (c_M_isOf zl G x (nI E.length)) ([]) rfl rfl (fun _ => Nat.le_of_ble_eq_true rfl) rfl rfl hl.1 (Nat.le_of_ble_eq_true rfl) ⟨(by omega), (by omega)⟩ ⟨(by omega), (by omega)⟩ d_M_code_6 (fun r u H locs hp hw1 => ?_)
    rw [if_neg ho_6] at hp
    subst hp
    refine W.cs (cells' := 0) (slots' := 0) rfl rfl ?_
    replace hw : WW G A zs ([oM (am 0) [.int th, .int (nI n), .int (nI room), .int (nI Sx), .int (nI Kx), .int (nI rs.length), .ref (am 1), .ref (am 2), .ref (am 3), .ref (am 4), .ref (am 5), .ref (am 6), .ref (am 7), .ref (am 8), .int (nI pm.length), .int (nI E.length), .int (nI S.length), .int (nI md), .int (nI ag), .int (nI (deadN S S.length)), .int (anF ov), .int bw, .ref (am 9), .ref (am 10), .ref (am 11), .ref (am 12), .ref (am 13), .ref (am 14), .ref (am 15), .ref (am 16), .ref (am 17), .ref (am 18), zv 0, zv 1], aI G (am 1) 40 (fa 1), aI G (am 2) 40 (fa 2), aI G (am 3) 40 (fa 3), aI G (am 4) 40 (fa 4), aI G (am 5) 160 (fa 5), aI G (am 6) 160 (fa 6), aZ G (am 7) 64 (fa 7), aI G (am 8) 96 (fa 8), aI G (am 9) 98304 (fa 9), aI G (am 10) 8192 (fa 10), aI G (am 11) 8192 (fa 11), aI G (am 12) 8192 (fa 12), aI G (am 13) 8192 (fa 13), aI G (am 14) 8192 (fa 14), aI G (am 15) 8192 (fa 15), aI G (am 16) 12 (fa 16), aI G (am 17) 12 (fa 17), aI G (am 18) 12 (fa 18)]) H locs := hw1
    refine r_if_eq (tgt := 45) hx hb (by omega) d_M_code_9 (by decide) (fun c_9 => ?_) (fun c_9 => ?_)
    · skip
      refine lv_iconst (v := nI 1) hx hb d_M_code_45 rfl ?_
      refine lv_goto (tgt := 50) hx hb d_M_code_46 (by decide) ?_
      refine lv_iconst (v := nI 0) hx hb d_M_code_50 rfl ?_
      refine xV_i (rest := []) (As := [.int (nI 1), .int (nI 0)]) hx hb hml hown hts hK hA hw k_M_103 (c_M_throwing zl G (am 0) th (nI 1) (nI 0) (.int (nI n)) (.int (nI room)) (.int (nI Sx)) (.int (nI Kx)) (.int (nI rs.length)) (.ref (am 1)) (.ref (am 2)) (.ref (am 3)) (.ref (am 4)) (.ref (am 5)) (.ref (am 6)) (.ref (am 7)) (.ref (am 8)) (.int (nI pm.length)) (.int (nI E.length)) (.int (nI S.length)) (.int (nI md)) (.int (nI ag)) (.int (nI (deadN S S.length))) (.int (anF ov)) (.int bw) (.ref (am 9)) (.ref (am 10)) (.ref (am 11)) (.ref (am 12)) (.ref (am 13)) (.ref (am 14)) (.ref (am 15)) (.ref (am 16)) (.ref (am 17)) (.ref (am 18)) (zv 0) (zv 1)) ([0]) rfl rfl (fun _ => Nat.le_of_ble_eq_true rfl) 0 rfl rfl rfl rfl hl.1 (Nat.le_of_ble_eq_true rfl) ⟨(by omega), (by omega)⟩ ⟨(by omega), (by omega)⟩ d_M_code_51 (fun r u3 H locs hp hw1 => ?_)
      obtain ⟨rfl, rfl⟩ := hp
      refine W.cs (cells' := 0) (slots' := 0) rfl rfl ?_
      replace hw : WW G A zs ([oM (am 0) [.int (nI 1), .int (nI n), .int (nI room), .int (nI Sx), .int (nI Kx), .int (nI rs.length), .ref (am 1), .ref (am 2), .ref (am 3), .ref (am 4), .ref (am 5), .ref (am 6), .ref (am 7), .ref (am 8), .int (nI pm.length), .int (nI E.length), .int (nI S.length), .int (nI md), .int (nI ag), .int (nI (deadN S S.length)), .int (anF ov), .int bw, .ref (am 9), .ref (am 10), .ref (am 11), .ref (am 12), .ref (am 13), .ref (am 14), .ref (am 15), .ref (am 16), .ref (am 17), .ref (am 18), zv 0, zv 1], aI G (am 1) 40 (fa 1), aI G (am 2) 40 (fa 2), aI G (am 3) 40 (fa 3), aI G (am 4) 40 (fa 4), aI G (am 5) 160 (fa 5), aI G (am 6) 160 (fa 6), aZ G (am 7) 64 (fa 7), aI G (am 8) 96 (fa 8), aI G (am 9) 98304 (fa 9), aI G (am 10) 8192 (fa 10), aI G (am 11) 8192 (fa 11), aI G (am 12) 8192 (fa 12), aI G (am 13) 8192 (fa 13), aI G (am 14) 8192 (fa 14), aI G (am 15) 8192 (fa 15), aI G (am 16) 12 (fa 16), aI G (am 17) 12 (fa 17), aI G (am 18) 12 (fa 18)]) H locs := hw1
      refine r_if_eq (tgt := 59) hx hb (by omega) d_M_code_54 (by decide) (fun c_54 => ?_) (fun c_54 => ?_)
      · skip
        exact absurd c_54 (by decide)
      · skip
        refine lv_iconst (v := nI 0) hx hb d_M_code_57 rfl ?_
        exact r_ret hQ (r_iret () hx hb hr hlk hw trivial (by omega) (by omega) d_M_code_58)
    · skip
      exact absurd c_9 (by decide)
set_option maxHeartbeats 4000000 in
set_option maxRecDepth 100000 in
theorem c_M_codeX2 (zl : Launch) (G : GG) (am : Nat → Nat) (fa : Nat → Nat → Int32) (zv : Nat → Value) (th bw : Int32) (n room Sx Kx : Nat) (ps pm : List (List Nat)) (B : Nat → Bool) (rs : List Rl) (E : List Ent) (S : List Nat) (md ag ov : Nat) (k : Nat) (y : Int32) (hE : EOK n room E) (hMR : MR E S fa) (hk : k < E.length) (hbad : ¬ (0 ≤ y ∧ y < nI (E.getD k eD).1.2.length)) : Ctr (S := Unit) vI zl y_M_code b_M_code 3 (Option.some Jvm.ClassFile.FieldType.int) 1 0 0 G [.ref (am 0), .int (nI k), .int y] ([oM (am 0) [.int th, .int (nI n), .int (nI room), .int (nI Sx), .int (nI Kx), .int (nI rs.length), .ref (am 1), .ref (am 2), .ref (am 3), .ref (am 4), .ref (am 5), .ref (am 6), .ref (am 7), .ref (am 8), .int (nI pm.length), .int (nI E.length), .int (nI S.length), .int (nI md), .int (nI ag), .int (nI (deadN S S.length)), .int (anF ov), .int bw, .ref (am 9), .ref (am 10), .ref (am 11), .ref (am 12), .ref (am 13), .ref (am 14), .ref (am 15), .ref (am 16), .ref (am 17), .ref (am 18), zv 0, zv 1], aI G (am 1) 40 (fa 1), aI G (am 2) 40 (fa 2), aI G (am 3) 40 (fa 3), aI G (am 4) 40 (fa 4), aI G (am 5) 160 (fa 5), aI G (am 6) 160 (fa 6), aZ G (am 7) 64 (fa 7), aI G (am 8) 96 (fa 8), aI G (am 9) 98304 (fa 9), aI G (am 10) 8192 (fa 10), aI G (am 11) 8192 (fa 11), aI G (am 12) 8192 (fa 12), aI G (am 13) 8192 (fa 13), aI G (am 14) 8192 (fa 14), aI G (am 15) 8192 (fa 15), aI G (am 16) 12 (fa 16), aI G (am 17) 12 (fa 17), aI G (am 18) 12 (fa 18)]) (fun _ _ => True) (fun _ => [oM (am 0) [.int (nI 1), .int (nI n), .int (nI room), .int (nI Sx), .int (nI Kx), .int (nI rs.length), .ref (am 1), .ref (am 2), .ref (am 3), .ref (am 4), .ref (am 5), .ref (am 6), .ref (am 7), .ref (am 8), .int (nI pm.length), .int (nI E.length), .int (nI S.length), .int (nI md), .int (nI ag), .int (nI (deadN S S.length)), .int (anF ov), .int bw, .ref (am 9), .ref (am 10), .ref (am 11), .ref (am 12), .ref (am 13), .ref (am 14), .ref (am 15), .ref (am 16), .ref (am 17), .ref (am 18), zv 0, zv 1], aI G (am 1) 40 (fa 1), aI G (am 2) 40 (fa 2), aI G (am 3) 40 (fa 3), aI G (am 4) 40 (fa 4), aI G (am 5) 160 (fa 5), aI G (am 6) 160 (fa 6), aZ G (am 7) 64 (fa 7), aI G (am 8) 96 (fa 8), aI G (am 9) 98304 (fa 9), aI G (am 10) 8192 (fa 10), aI G (am 11) 8192 (fa 11), aI G (am 12) 8192 (fa 12), aI G (am 13) 8192 (fa 13), aI G (am 14) 8192 (fa 14), aI G (am 15) 8192 (fa 15), aI G (am 16) 12 (fa 16), aI G (am 17) 12 (fa 17), aI G (am 18) 12 (fa 18)]) := by
  refine Ctr.start (by decide) (Nat.le_of_ble_eq_true rfl) ?_
  intro zp ze zs zm below meth zc A ls C0 hin hK hA hl hw
  obtain ⟨hx, hb, hr, hlk, hml, hown, hts⟩ := C0
  obtain ⟨R, hRR⟩ : ∃ R : Room, R = rmL 1 0 0 := ⟨_, rfl⟩
  have hRf : R.frames = 1 := by rw [hRR]
  have hRl : R.locals = 64 * 1 := by rw [hRR]
  have hRc : R.cells = 0 := by rw [hRR]
  have hRs : R.slots = 0 := by rw [hRR]
  rw [← hRR]; clear hRR
  generalize hQ : MQ below _ _ zs _ _ A = Q
  generalize hAr : List.toArray _ = args at hts hQ ⊢
  replace hl : lv_has ls 3 [(0, .ref (am 0)), (1, .int (nI k)), (2, .int y)] := hl
  obtain ⟨H, eH⟩ : ∃ H : Heap, H = zs.heap := ⟨_, rfl⟩
  obtain ⟨locs, eL⟩ : ∃ l0 : List Loc, l0 = [] := ⟨_, rfl⟩
  rw [← eH, ← eL] at hw ⊢; clear eH eL
  have hE8 := hE.2.2
  have h7 := (hE.1 _ (getD_memE hk)).2.2.2.1
  have hrow := (hMR.1 k hk).1
  refine lv_aload_n hx hb d_M_code_0 rfl (lv_at hl 0 rfl) ?_
  refine lv_iload_n hx hb d_M_code_1 rfl (lv_at hl 1 rfl) ?_
  refine lv_aload_n hx hb d_M_code_2 rfl (lv_at hl 0 rfl) ?_
  refine g_M_82 hx hb hts hown hK hw 0 rfl rfl d_M_code_3 ?_
  refine xS_i (rest := [.ref (am 0)]) (As := [.int (nI k), .int (nI E.length)]) hx hb hml hown hts hK hA hw k_M_113 (c_M_isOf zl G (nI k) (nI E.length)) ([]) rfl rfl (fun _ => Nat.le_of_ble_eq_true rfl) rfl rfl hl.1 (Nat.le_of_ble_eq_true rfl) ⟨(by omega), (by omega)⟩ ⟨(by omega), (by omega)⟩ d_M_code_6 (fun r u H locs hp hw1 => ?_)
  rw [if_pos ⟨nI_pos' (by omega), nI_lt (by omega) (by omega)⟩] at hp
  subst hp
  refine W.cs (cells' := 0) (slots' := 0) rfl rfl ?_
  replace hw : WW G A zs ([oM (am 0) [.int th, .int (nI n), .int (nI room), .int (nI Sx), .int (nI Kx), .int (nI rs.length), .ref (am 1), .ref (am 2), .ref (am 3), .ref (am 4), .ref (am 5), .ref (am 6), .ref (am 7), .ref (am 8), .int (nI pm.length), .int (nI E.length), .int (nI S.length), .int (nI md), .int (nI ag), .int (nI (deadN S S.length)), .int (anF ov), .int bw, .ref (am 9), .ref (am 10), .ref (am 11), .ref (am 12), .ref (am 13), .ref (am 14), .ref (am 15), .ref (am 16), .ref (am 17), .ref (am 18), zv 0, zv 1], aI G (am 1) 40 (fa 1), aI G (am 2) 40 (fa 2), aI G (am 3) 40 (fa 3), aI G (am 4) 40 (fa 4), aI G (am 5) 160 (fa 5), aI G (am 6) 160 (fa 6), aZ G (am 7) 64 (fa 7), aI G (am 8) 96 (fa 8), aI G (am 9) 98304 (fa 9), aI G (am 10) 8192 (fa 10), aI G (am 11) 8192 (fa 11), aI G (am 12) 8192 (fa 12), aI G (am 13) 8192 (fa 13), aI G (am 14) 8192 (fa 14), aI G (am 15) 8192 (fa 15), aI G (am 16) 12 (fa 16), aI G (am 17) 12 (fa 17), aI G (am 18) 12 (fa 18)]) H locs := hw1
  refine r_if_eq (tgt := 45) hx hb (by omega) d_M_code_9 (by decide) (fun c_9 => ?_) (fun c_9 => ?_)
  · skip
    exact absurd c_9 (by decide)
  · skip
    refine lv_iload_n hx hb d_M_code_12 rfl (lv_at hl 2 rfl) ?_
    refine lv_iload_n hx hb d_M_code_13 rfl (lv_at hl 1 rfl) ?_
    refine lv_aload_n hx hb d_M_code_14 rfl (lv_at hl 0 rfl) ?_
    refine g_M_82 hx hb hts hown hK hw 0 rfl rfl d_M_code_15 ?_
    refine xS_i (rest := [.int y, .ref (am 0)]) (As := [.int (nI k), .int (nI E.length)]) hx hb hml hown hts hK hA hw k_M_113 (c_M_isOf zl G (nI k) (nI E.length)) ([]) rfl rfl (fun _ => Nat.le_of_ble_eq_true rfl) rfl rfl hl.1 (Nat.le_of_ble_eq_true rfl) ⟨(by omega), (by omega)⟩ ⟨(by omega), (by omega)⟩ d_M_code_18 (fun r u H locs hp hw1 => ?_)
    rw [if_pos ⟨nI_pos' (by omega), nI_lt (by omega) (by omega)⟩] at hp
    subst hp
    refine W.cs (cells' := 0) (slots' := 0) rfl rfl ?_
    replace hw : WW G A zs ([oM (am 0) [.int th, .int (nI n), .int (nI room), .int (nI Sx), .int (nI Kx), .int (nI rs.length), .ref (am 1), .ref (am 2), .ref (am 3), .ref (am 4), .ref (am 5), .ref (am 6), .ref (am 7), .ref (am 8), .int (nI pm.length), .int (nI E.length), .int (nI S.length), .int (nI md), .int (nI ag), .int (nI (deadN S S.length)), .int (anF ov), .int bw, .ref (am 9), .ref (am 10), .ref (am 11), .ref (am 12), .ref (am 13), .ref (am 14), .ref (am 15), .ref (am 16), .ref (am 17), .ref (am 18), zv 0, zv 1], aI G (am 1) 40 (fa 1), aI G (am 2) 40 (fa 2), aI G (am 3) 40 (fa 3), aI G (am 4) 40 (fa 4), aI G (am 5) 160 (fa 5), aI G (am 6) 160 (fa 6), aZ G (am 7) 64 (fa 7), aI G (am 8) 96 (fa 8), aI G (am 9) 98304 (fa 9), aI G (am 10) 8192 (fa 10), aI G (am 11) 8192 (fa 11), aI G (am 12) 8192 (fa 12), aI G (am 13) 8192 (fa 13), aI G (am 14) 8192 (fa 14), aI G (am 15) 8192 (fa 15), aI G (am 16) 12 (fa 16), aI G (am 17) 12 (fa 17), aI G (am 18) 12 (fa 18)]) H locs := hw1
    refine r_if_eq (tgt := 38) hx hb (by omega) d_M_code_21 (by decide) (fun c_21 => ?_) (fun c_21 => ?_)
    · skip
      exact absurd c_21 (by decide)
    · skip
      refine lv_aload_n hx hb d_M_code_24 rfl (lv_at hl 0 rfl) ?_
      refine g_M_40 hx hb hts hown hK hw 0 rfl rfl d_M_code_25 ?_
      refine lv_bipush (v := nI 12) hx hb d_M_code_28 (by decide) ?_
      refine lv_iload_n hx hb d_M_code_30 rfl (lv_at hl 1 rfl) ?_
      refine r_imulN hx hb d_M_code_31 ?_
      refine lv_iconst (v := nI 4) hx hb d_M_code_32 rfl ?_
      refine r_iaddN hx hb d_M_code_33 ?_
      refine r_iald hx hb hK hw 9 rfl (by omega) (by omega) d_M_code_34 ?_
      refine r_eq (show (fa 9) ((12 * k) + 4) = nI ((E.getD k eD).1.2.length) from hrow.n) ?_
      refine lv_goto (tgt := 39) hx hb d_M_code_35 (by decide) ?_
      by_cases ho_39 : 0 ≤ y ∧ y < nI ((E.getD k eD).1.2.length)
      · skip
        refine xS_i (rest := [.ref (am 0)]) (As := [.int y, .int (nI ((E.getD k eD).1.2.length))]) hx hb hml hown hts hK hA hw k_M_113 (c_M_isOf zl G y (nI ((E.getD k eD).1.2.length))) ([]) rfl rfl (fun _ => Nat.le_of_ble_eq_true rfl) rfl rfl hl.1 (Nat.le_of_ble_eq_true rfl) ⟨(by omega), (by omega)⟩ ⟨(by omega), (by omega)⟩ d_M_code_39 (fun r u H locs hp hw1 => ?_)
        rw [if_pos ho_39] at hp
        subst hp
        refine W.cs (cells' := 0) (slots' := 0) rfl rfl ?_
        replace hw : WW G A zs ([oM (am 0) [.int th, .int (nI n), .int (nI room), .int (nI Sx), .int (nI Kx), .int (nI rs.length), .ref (am 1), .ref (am 2), .ref (am 3), .ref (am 4), .ref (am 5), .ref (am 6), .ref (am 7), .ref (am 8), .int (nI pm.length), .int (nI E.length), .int (nI S.length), .int (nI md), .int (nI ag), .int (nI (deadN S S.length)), .int (anF ov), .int bw, .ref (am 9), .ref (am 10), .ref (am 11), .ref (am 12), .ref (am 13), .ref (am 14), .ref (am 15), .ref (am 16), .ref (am 17), .ref (am 18), zv 0, zv 1], aI G (am 1) 40 (fa 1), aI G (am 2) 40 (fa 2), aI G (am 3) 40 (fa 3), aI G (am 4) 40 (fa 4), aI G (am 5) 160 (fa 5), aI G (am 6) 160 (fa 6), aZ G (am 7) 64 (fa 7), aI G (am 8) 96 (fa 8), aI G (am 9) 98304 (fa 9), aI G (am 10) 8192 (fa 10), aI G (am 11) 8192 (fa 11), aI G (am 12) 8192 (fa 12), aI G (am 13) 8192 (fa 13), aI G (am 14) 8192 (fa 14), aI G (am 15) 8192 (fa 15), aI G (am 16) 12 (fa 16), aI G (am 17) 12 (fa 17), aI G (am 18) 12 (fa 18)]) H locs := hw1
        refine r_if_ne (tgt := 49) hx hb (by omega) d_M_code_42 (by decide) (fun c_42 => ?_) (fun c_42 => ?_)
        · skip
          exact absurd ho_39 hbad
        · skip
          exact absurd c_42 (by decide)
      · skip
        refine xS_i (rest := [.ref (am 0)]) (As := [.int y, .int (nI ((E.getD k eD).1.2.length))]) hx hb hml hown hts hK hA hw k_M_113 (c_M_isOf zl G y (nI ((E.getD k eD).1.2.length))) ([]) rfl rfl (fun _ => Nat.le_of_ble_eq_true rfl) rfl rfl hl.1 (Nat.le_of_ble_eq_true rfl) ⟨(by omega), (by omega)⟩ ⟨(by omega), (by omega)⟩ d_M_code_39 (fun r u H locs hp hw1 => ?_)
        rw [if_neg ho_39] at hp
        subst hp
        refine W.cs (cells' := 0) (slots' := 0) rfl rfl ?_
        replace hw : WW G A zs ([oM (am 0) [.int th, .int (nI n), .int (nI room), .int (nI Sx), .int (nI Kx), .int (nI rs.length), .ref (am 1), .ref (am 2), .ref (am 3), .ref (am 4), .ref (am 5), .ref (am 6), .ref (am 7), .ref (am 8), .int (nI pm.length), .int (nI E.length), .int (nI S.length), .int (nI md), .int (nI ag), .int (nI (deadN S S.length)), .int (anF ov), .int bw, .ref (am 9), .ref (am 10), .ref (am 11), .ref (am 12), .ref (am 13), .ref (am 14), .ref (am 15), .ref (am 16), .ref (am 17), .ref (am 18), zv 0, zv 1], aI G (am 1) 40 (fa 1), aI G (am 2) 40 (fa 2), aI G (am 3) 40 (fa 3), aI G (am 4) 40 (fa 4), aI G (am 5) 160 (fa 5), aI G (am 6) 160 (fa 6), aZ G (am 7) 64 (fa 7), aI G (am 8) 96 (fa 8), aI G (am 9) 98304 (fa 9), aI G (am 10) 8192 (fa 10), aI G (am 11) 8192 (fa 11), aI G (am 12) 8192 (fa 12), aI G (am 13) 8192 (fa 13), aI G (am 14) 8192 (fa 14), aI G (am 15) 8192 (fa 15), aI G (am 16) 12 (fa 16), aI G (am 17) 12 (fa 17), aI G (am 18) 12 (fa 18)]) H locs := hw1
        refine r_if_ne (tgt := 49) hx hb (by omega) d_M_code_42 (by decide) (fun c_42 => ?_) (fun c_42 => ?_)
        · skip
          exact absurd c_42 (by decide)
        · skip
          refine lv_iconst (v := nI 1) hx hb d_M_code_45 rfl ?_
          refine lv_goto (tgt := 50) hx hb d_M_code_46 (by decide) ?_
          refine lv_iconst (v := nI 0) hx hb d_M_code_50 rfl ?_
          refine xV_i (rest := []) (As := [.int (nI 1), .int (nI 0)]) hx hb hml hown hts hK hA hw k_M_103 (c_M_throwing zl G (am 0) th (nI 1) (nI 0) (.int (nI n)) (.int (nI room)) (.int (nI Sx)) (.int (nI Kx)) (.int (nI rs.length)) (.ref (am 1)) (.ref (am 2)) (.ref (am 3)) (.ref (am 4)) (.ref (am 5)) (.ref (am 6)) (.ref (am 7)) (.ref (am 8)) (.int (nI pm.length)) (.int (nI E.length)) (.int (nI S.length)) (.int (nI md)) (.int (nI ag)) (.int (nI (deadN S S.length))) (.int (anF ov)) (.int bw) (.ref (am 9)) (.ref (am 10)) (.ref (am 11)) (.ref (am 12)) (.ref (am 13)) (.ref (am 14)) (.ref (am 15)) (.ref (am 16)) (.ref (am 17)) (.ref (am 18)) (zv 0) (zv 1)) ([0]) rfl rfl (fun _ => Nat.le_of_ble_eq_true rfl) 0 rfl rfl rfl rfl hl.1 (Nat.le_of_ble_eq_true rfl) ⟨(by omega), (by omega)⟩ ⟨(by omega), (by omega)⟩ d_M_code_51 (fun r u3 H locs hp hw1 => ?_)
          obtain ⟨rfl, rfl⟩ := hp
          refine W.cs (cells' := 0) (slots' := 0) rfl rfl ?_
          replace hw : WW G A zs ([oM (am 0) [.int (nI 1), .int (nI n), .int (nI room), .int (nI Sx), .int (nI Kx), .int (nI rs.length), .ref (am 1), .ref (am 2), .ref (am 3), .ref (am 4), .ref (am 5), .ref (am 6), .ref (am 7), .ref (am 8), .int (nI pm.length), .int (nI E.length), .int (nI S.length), .int (nI md), .int (nI ag), .int (nI (deadN S S.length)), .int (anF ov), .int bw, .ref (am 9), .ref (am 10), .ref (am 11), .ref (am 12), .ref (am 13), .ref (am 14), .ref (am 15), .ref (am 16), .ref (am 17), .ref (am 18), zv 0, zv 1], aI G (am 1) 40 (fa 1), aI G (am 2) 40 (fa 2), aI G (am 3) 40 (fa 3), aI G (am 4) 40 (fa 4), aI G (am 5) 160 (fa 5), aI G (am 6) 160 (fa 6), aZ G (am 7) 64 (fa 7), aI G (am 8) 96 (fa 8), aI G (am 9) 98304 (fa 9), aI G (am 10) 8192 (fa 10), aI G (am 11) 8192 (fa 11), aI G (am 12) 8192 (fa 12), aI G (am 13) 8192 (fa 13), aI G (am 14) 8192 (fa 14), aI G (am 15) 8192 (fa 15), aI G (am 16) 12 (fa 16), aI G (am 17) 12 (fa 17), aI G (am 18) 12 (fa 18)]) H locs := hw1
          refine r_if_eq (tgt := 59) hx hb (by omega) d_M_code_54 (by decide) (fun c_54 => ?_) (fun c_54 => ?_)
          · skip
            exact absurd c_54 (by decide)
          · skip
            refine lv_iconst (v := nI 0) hx hb d_M_code_57 rfl ?_
            exact r_ret hQ (r_iret () hx hb hr hlk hw trivial (by omega) (by omega) d_M_code_58)
