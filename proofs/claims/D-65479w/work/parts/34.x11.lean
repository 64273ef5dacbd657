theorem go_stop {ps : List (List Nat)} {B : Nat → Bool} {n room f md ag ov : Nat} {rs : List Rl} {E : List Ent} {S : List Nat} (h : ¬ (ov = 0 ∧ S.length < E.length) ∨ f = 0) : rnA ps B n room rs f (E, S, md, ag, ov) = (E, S, md, ag, ov) := by
  rcases h with h | h
  · exact rnA_stop h f
  · rw [h]; rfl
set_option maxHeartbeats 4000000 in
set_option maxRecDepth 100000 in
theorem c_X_right (zl : Launch) (G : GG)  : Ctr (S := Unit) vV zl y_X_right b_X_right 1 (Option.none : Option Jvm.ClassFile.FieldType) 0 0 0 G [.int (nI 1)] ([]) (fun _ _ => True) (fun _ => []) := by
  refine Ctr.start (by decide) (Nat.le_of_ble_eq_true rfl) ?_
  intro zp ze zs zm below meth zc A ls C0 hin hK hA hl hw
  obtain ⟨hx, hb, hr, hlk, hml, hown, hts⟩ := C0
  obtain ⟨R, hRR⟩ : ∃ R : Room, R = rmL 0 0 0 := ⟨_, rfl⟩
  have hRf : R.frames = 0 := by rw [hRR]
  have hRl : R.locals = 64 * 0 := by rw [hRR]
  have hRc : R.cells = 0 := by rw [hRR]
  have hRs : R.slots = 0 := by rw [hRR]
  rw [← hRR]; clear hRR
  generalize hQ : MQ below _ _ zs _ _ A = Q
  generalize hAr : List.toArray _ = args at hts hQ ⊢
  replace hl : lv_has ls 1 [(0, .int (nI 1))] := hl
  obtain ⟨H, eH⟩ : ∃ H : Heap, H = zs.heap := ⟨_, rfl⟩
  obtain ⟨locs, eL⟩ : ∃ l0 : List Loc, l0 = [] := ⟨_, rfl⟩
  rw [← eH, ← eL] at hw ⊢; clear eH eL
  refine lv_iload_n hx hb d_X_right_0 rfl (lv_at hl 0 rfl) ?_
  refine r_if_ne (tgt := 12) hx hb (by omega) d_X_right_1 (by decide) (fun c_1 => ?_) (fun c_1 => ?_)
  · skip
    exact r_ret hQ (r_vret () hx hb hr hlk hw trivial (by omega) (by omega) d_X_right_12)
  · skip
    exact absurd c_1 (by decide)
set_option maxHeartbeats 4000000 in
set_option maxRecDepth 100000 in
theorem c_X_there (zl : Launch) (G : GG)  : Ctr (S := Unit) vV zl y_X_there b_X_there 1 (Option.none : Option Jvm.ClassFile.FieldType) 0 0 0 G [.int (nI 1)] ([]) (fun _ _ => True) (fun _ => []) := by
  refine Ctr.start (by decide) (Nat.le_of_ble_eq_true rfl) ?_
  intro zp ze zs zm below meth zc A ls C0 hin hK hA hl hw
  obtain ⟨hx, hb, hr, hlk, hml, hown, hts⟩ := C0
  obtain ⟨R, hRR⟩ : ∃ R : Room, R = rmL 0 0 0 := ⟨_, rfl⟩
  have hRf : R.frames = 0 := by rw [hRR]
  have hRl : R.locals = 64 * 0 := by rw [hRR]
  have hRc : R.cells = 0 := by rw [hRR]
  have hRs : R.slots = 0 := by rw [hRR]
  rw [← hRR]; clear hRR
  generalize hQ : MQ below _ _ zs _ _ A = Q
  generalize hAr : List.toArray _ = args at hts hQ ⊢
  replace hl : lv_has ls 1 [(0, .int (nI 1))] := hl
  obtain ⟨H, eH⟩ : ∃ H : Heap, H = zs.heap := ⟨_, rfl⟩
  obtain ⟨locs, eL⟩ : ∃ l0 : List Loc, l0 = [] := ⟨_, rfl⟩
  rw [← eH, ← eL] at hw ⊢; clear eH eL
  refine lv_iload_n hx hb d_X_there_0 rfl (lv_at hl 0 rfl) ?_
  refine r_if_ne (tgt := 12) hx hb (by omega) d_X_there_1 (by decide) (fun c_1 => ?_) (fun c_1 => ?_)
  · skip
    exact r_ret hQ (r_vret () hx hb hr hlk hw trivial (by omega) (by omega) d_X_there_12)
  · skip
    exact absurd c_1 (by decide)
set_option maxHeartbeats 4000000 in
set_option maxRecDepth 100000 in
theorem c_X_allowed (zl : Launch) (G : GG)  : Ctr (S := Unit) vV zl y_X_allowed b_X_allowed 1 (Option.none : Option Jvm.ClassFile.FieldType) 0 0 0 G [.int (nI 1)] ([]) (fun _ _ => True) (fun _ => []) := by
  refine Ctr.start (by decide) (Nat.le_of_ble_eq_true rfl) ?_
  intro zp ze zs zm below meth zc A ls C0 hin hK hA hl hw
  obtain ⟨hx, hb, hr, hlk, hml, hown, hts⟩ := C0
  obtain ⟨R, hRR⟩ : ∃ R : Room, R = rmL 0 0 0 := ⟨_, rfl⟩
  have hRf : R.frames = 0 := by rw [hRR]
  have hRl : R.locals = 64 * 0 := by rw [hRR]
  have hRc : R.cells = 0 := by rw [hRR]
  have hRs : R.slots = 0 := by rw [hRR]
  rw [← hRR]; clear hRR
  generalize hQ : MQ below _ _ zs _ _ A = Q
  generalize hAr : List.toArray _ = args at hts hQ ⊢
  replace hl : lv_has ls 1 [(0, .int (nI 1))] := hl
  obtain ⟨H, eH⟩ : ∃ H : Heap, H = zs.heap := ⟨_, rfl⟩
  obtain ⟨locs, eL⟩ : ∃ l0 : List Loc, l0 = [] := ⟨_, rfl⟩
  rw [← eH, ← eL] at hw ⊢; clear eH eL
  refine lv_iload_n hx hb d_X_allowed_0 rfl (lv_at hl 0 rfl) ?_
  refine r_if_ne (tgt := 12) hx hb (by omega) d_X_allowed_1 (by decide) (fun c_1 => ?_) (fun c_1 => ?_)
  · skip
    exact r_ret hQ (r_vret () hx hb hr hlk hw trivial (by omega) (by omega) d_X_allowed_12)
  · skip
    exact absurd c_1 (by decide)
set_option maxHeartbeats 4000000 in
set_option maxRecDepth 100000 in
theorem c_X_go (zl : Launch) (G : GG) (ad qa : Nat → Nat) (fm : Nat → Int64) (fs js : Nat → Nat → Int32) (zv : Nat → Value) (fb fn : Nat → Int32) (rr : Nat → Option Nat) (rp : va_W) (n room Sx Kx j : Nat) (ps : List (List Nat)) (B : Nat → Bool) (rs : List Rl) (E Ef : List Ent) (S Sf : List Nat) (md ag ov mdf agf ovf nn : Nat) (hnn : 1 ≤ nn ∧ nn ≤ 1000) (hcf : CF n ps B fb fn) (hX : XR E j fm fs) (hSI : SI n room (E, S, md, ag, ov)) (hXS : XS S (fs 5)) (hrp : RP G rr rs rp) (hroom : 0 < room) (hst : rnA ps B n room rs nn (bgS ps B n room (E, S, md, ag, ov)) = (Ef, Sf, mdf, agf, ovf)) : Ctr (S := (Nat → Nat) × (Nat → Int64) × (Nat → Nat → Int32) × (Nat → Nat → Int32) × (Nat → Value)) vI zl y_X_go b_X_go 3 (Option.some Jvm.ClassFile.FieldType.int) 7 (7 * (jx j Ef.length - j)) (1280 * 2 ^ jx j Ef.length - 1280 * 2 ^ j) G [.ref (ad 0), .int (nI nn)] ([oX (ad 0) [.int (nI n), .int (nI room), .int (nI Sx), .int (nI Kx), .ref (ad 17), .int (nI rs.length), .ref (ad 1), .ref (ad 2), .int (nI ps.length), .ref (qa 1), .ref (qa 2), .ref (qa 3), .ref (qa 4), .ref (qa 5), .ref (qa 6), .int (nI E.length), .int (nI S.length), .ref (qa 7), .int (boF ov E.length), .int (fuF ov), .int (nI md), .int (nI ag), .ref (ad 18), .ref (ad 10), .ref (ad 13), .ref (ad 16), zv 2], aZ G (ad 1) 64 fb, aI G (ad 2) 96 fn, aJ G (qa 1) (64 * 2 ^ j) fm, aI G (qa 2) (64 * 2 ^ j) (fs 2), aI G (qa 3) (64 * 2 ^ j) (fs 3), aI G (qa 4) (64 * 2 ^ j) (fs 4), aI G (qa 5) (64 * 2 ^ j) (fs 5), aI G (qa 6) (64 * 2 ^ j) (fs 6), aI G (qa 7) (2 ^ (8 + j)) (fs 7), oW (ad 10) [.ref (ad 11), .ref (ad 12), zv 0], aI G (ad 11) 4 (js 1), aI G (ad 12) 8 (js 2), oW (ad 13) [.ref (ad 14), .ref (ad 15), zv 1], aI G (ad 14) 4 (js 3), aI G (ad 15) 8 (js 4), aI G (ad 16) 4 (js 0), aR G (ad 17) 40 rr, oW (ad 18) [.ref (ad 19), .ref (ad 20), zv 3], aI G (ad 19) 4 (js 5), aI G (ad 20) 8 (js 6)] ++ rp) (fun r u => r = nI Ef.length ∧ XR Ef (jx j Ef.length) u.2.1 u.2.2.1 ∧ XS Sf (u.2.2.1 5)) (fun u => [oX (ad 0) [.int (nI n), .int (nI room), .int (nI Sx), .int (nI Kx), .ref (ad 17), .int (nI rs.length), .ref (ad 1), .ref (ad 2), .int (nI ps.length), .ref (u.1 1), .ref (u.1 2), .ref (u.1 3), .ref (u.1 4), .ref (u.1 5), .ref (u.1 6), .int (nI Ef.length), .int (nI Sf.length), .ref (u.1 7), .int (boF ovf Ef.length), .int (fuF ovf), .int (nI mdf), .int (nI agf), .ref (ad 18), .ref (ad 10), .ref (ad 13), .ref (ad 16), u.2.2.2.2 2], aZ G (ad 1) 64 fb, aI G (ad 2) 96 fn, aJ G (u.1 1) (64 * 2 ^ (jx j Ef.length)) u.2.1, aI G (u.1 2) (64 * 2 ^ (jx j Ef.length)) (u.2.2.1 2), aI G (u.1 3) (64 * 2 ^ (jx j Ef.length)) (u.2.2.1 3), aI G (u.1 4) (64 * 2 ^ (jx j Ef.length)) (u.2.2.1 4), aI G (u.1 5) (64 * 2 ^ (jx j Ef.length)) (u.2.2.1 5), aI G (u.1 6) (64 * 2 ^ (jx j Ef.length)) (u.2.2.1 6), aI G (u.1 7) (2 ^ (8 + (jx j Ef.length))) (u.2.2.1 7), oW (ad 10) [.ref (ad 11), .ref (ad 12), u.2.2.2.2 0], aI G (ad 11) 4 (u.2.2.2.1 1), aI G (ad 12) 8 (u.2.2.2.1 2), oW (ad 13) [.ref (ad 14), .ref (ad 15), u.2.2.2.2 1], aI G (ad 14) 4 (u.2.2.2.1 3), aI G (ad 15) 8 (u.2.2.2.1 4), aI G (ad 16) 4 (u.2.2.2.1 0), aR G (ad 17) 40 rr, oW (ad 18) [.ref (ad 19), .ref (ad 20), u.2.2.2.2 3], aI G (ad 19) 4 (u.2.2.2.1 5), aI G (ad 20) 8 (u.2.2.2.1 6)] ++ rp) := by
  refine Ctr.start (by decide) (Nat.le_of_ble_eq_true rfl) ?_
  intro zp ze zs zm below meth zc A ls C0 hin hK hA hl hw
  obtain ⟨hx, hb, hr, hlk, hml, hown, hts⟩ := C0
  obtain ⟨R, hRR⟩ : ∃ R : Room, R = rmL 7 (7 * (jx j Ef.length - j)) (1280 * 2 ^ jx j Ef.length - 1280 * 2 ^ j) := ⟨_, rfl⟩
  have hRf : R.frames = 7 := by rw [hRR]
  have hRl : R.locals = 64 * 7 := by rw [hRR]
  have hRc : R.cells = 7 * (jx j Ef.length - j) := by rw [hRR]
  have hRs : R.slots = 1280 * 2 ^ jx j Ef.length - 1280 * 2 ^ j := by rw [hRR]
  rw [← hRR]; clear hRR
  generalize hQ : MQ below _ _ zs _ _ A = Q
  generalize hAr : List.toArray _ = args at hts hQ ⊢
  replace hl : lv_has ls 3 [(0, .ref (ad 0)), (1, .int (nI nn))] := hl
  obtain ⟨H, eH⟩ : ∃ H : Heap, H = zs.heap := ⟨_, rfl⟩
  obtain ⟨locs, eL⟩ : ∃ l0 : List Loc, l0 = [] := ⟨_, rfl⟩
  rw [← eH, ← eL] at hw ⊢; clear eH eL
  refine lv_iload_n hx hb d_X_go_0 rfl (lv_at hl 1 rfl) ?_
  refine lv_iconst (v := nI 1) hx hb d_X_go_1 rfl ?_
  refine r_icmp_lt (tgt := 16) hx hb (by omega) (by omega) d_X_go_2 (by decide) (fun c_2 => ?_) (fun c_2 => ?_)
  · skip
    exfalso; omega
  · skip
    refine lv_iload_n hx hb d_X_go_5 rfl (lv_at hl 1 rfl) ?_
    refine lv_sipush (v := nI 1000) hx hb d_X_go_6 (by decide) ?_
    refine r_icmp_gt (tgt := 16) hx hb (by omega) (by omega) d_X_go_9 (by decide) (fun c_9 => ?_) (fun c_9 => ?_)
    · skip
      exfalso; omega
    · skip
      refine lv_iconst (v := nI 1) hx hb d_X_go_12 rfl ?_
      refine lv_goto (tgt := 17) hx hb d_X_go_13 (by decide) ?_
      refine xS_v (rest := []) (As := [.int (nI 1)]) hx hb hml hown hts hK hA hw k_X_126 (c_X_right zl G) ([]) rfl rfl (fun _ => Nat.le_of_ble_eq_true rfl) rfl rfl hl.1 (Nat.le_of_ble_eq_true rfl) ⟨(by omega), (by omega)⟩ ⟨(by omega), (by omega)⟩ d_X_go_17 (fun _ u H locs hp hw1 => ?_)
      refine W.cs (cells' := 0) (slots' := 0) rfl rfl ?_
      replace hw : WW G A zs ([oX (ad 0) [.int (nI n), .int (nI room), .int (nI Sx), .int (nI Kx), .ref (ad 17), .int (nI rs.length), .ref (ad 1), .ref (ad 2), .int (nI ps.length), .ref (qa 1), .ref (qa 2), .ref (qa 3), .ref (qa 4), .ref (qa 5), .ref (qa 6), .int (nI E.length), .int (nI S.length), .ref (qa 7), .int (boF ov E.length), .int (fuF ov), .int (nI md), .int (nI ag), .ref (ad 18), .ref (ad 10), .ref (ad 13), .ref (ad 16), zv 2], aZ G (ad 1) 64 fb, aI G (ad 2) 96 fn, aJ G (qa 1) (64 * 2 ^ j) fm, aI G (qa 2) (64 * 2 ^ j) (fs 2), aI G (qa 3) (64 * 2 ^ j) (fs 3), aI G (qa 4) (64 * 2 ^ j) (fs 4), aI G (qa 5) (64 * 2 ^ j) (fs 5), aI G (qa 6) (64 * 2 ^ j) (fs 6), aI G (qa 7) (2 ^ (8 + j)) (fs 7), oW (ad 10) [.ref (ad 11), .ref (ad 12), zv 0], aI G (ad 11) 4 (js 1), aI G (ad 12) 8 (js 2), oW (ad 13) [.ref (ad 14), .ref (ad 15), zv 1], aI G (ad 14) 4 (js 3), aI G (ad 15) 8 (js 4), aI G (ad 16) 4 (js 0), aR G (ad 17) 40 rr, oW (ad 18) [.ref (ad 19), .ref (ad 20), zv 3], aI G (ad 19) 4 (js 5), aI G (ad 20) 8 (js 6)] ++ rp) H locs := hw1
      refine lv_aload_n hx hb d_X_go_20 rfl (lv_at hl 0 rfl) ?_
      obtain ⟨⟨E1, ag1, ov1⟩, hst1⟩ : ∃ z : List Ent × Nat × Nat, bgA ps B n room E ag ov = z := ⟨_, rfl⟩
      have hst2 : bgS ps B n room (E, S, md, ag, ov) = (E1, S, md, ag1, ov1) := by unfold bgS; rw [hst1]
      have hb := bgS_ok (B := B) hSI hcf.2.2.1 hcf.2.2.2.2.1 hcf.1 hroom
      rw [hst2] at hb hst
      obtain ⟨hSI1, hL1, hpos1⟩ := hb
      dsimp only at hL1 hpos1
      have hE1 : E1.length ≤ 8192 := Nat.le_trans hSI1.1.2.2.1 hSI1.1.2.2.2
      have hLf := rnA_len (ps := ps) (B := B) (n := n) (room := room) (rs := rs) nn (E1, S, md, ag1, ov1)
      rw [hst] at hLf
      dsimp only at hLf
      have hJb := jx_room (j := j) hL1 hLf
      refine xVA_v (rest := []) (As := []) hx hb hml hown hts hK hA hw k_X_237 (c_X_begin zl G ad qa fm fs js zv fb fn rr rp n room Sx Kx S.length j ps B rs E E1 md ag ov ag1 ov1 hcf hX hSI.1 hSI.2.1 hSI.2.2.2 hE1 hst1) 0 rfl rfl rfl rfl hl.1 (Nat.le_of_ble_eq_true rfl) ⟨(by omega), (by omega)⟩ ⟨(by omega), (by omega)⟩ d_X_go_21 (fun _ u9 H locs hp hw1 => ?_)
      obtain ⟨qa1, fm1, fs1, js1, zv1⟩ := u9
      obtain ⟨hX1, ho1⟩ := hp
      dsimp only at hX1 ho1
      replace hw : WW G A zs ([oX (ad 0) [.int (nI n), .int (nI room), .int (nI Sx), .int (nI Kx), .ref (ad 17), .int (nI rs.length), .ref (ad 1), .ref (ad 2), .int (nI ps.length), .ref (qa1 1), .ref (qa1 2), .ref (qa1 3), .ref (qa1 4), .ref (qa1 5), .ref (qa1 6), .int (nI E1.length), .int (nI S.length), .ref (qa1 7), .int (boF ov1 E1.length), .int (fuF ov1), .int (nI md), .int (nI ag1), .ref (ad 18), .ref (ad 10), .ref (ad 13), .ref (ad 16), zv1 2], aZ G (ad 1) 64 fb, aI G (ad 2) 96 fn, aJ G (qa1 1) (64 * 2 ^ (jx j E1.length)) fm1, aI G (qa1 2) (64 * 2 ^ (jx j E1.length)) (fs1 2), aI G (qa1 3) (64 * 2 ^ (jx j E1.length)) (fs1 3), aI G (qa1 4) (64 * 2 ^ (jx j E1.length)) (fs1 4), aI G (qa1 5) (64 * 2 ^ (jx j E1.length)) (fs1 5), aI G (qa1 6) (64 * 2 ^ (jx j E1.length)) (fs1 6), aI G (qa1 7) (2 ^ (8 + (jx j E1.length))) (fs1 7), oW (ad 10) [.ref (ad 11), .ref (ad 12), zv1 0], aI G (ad 11) 4 (js1 1), aI G (ad 12) 8 (js1 2), oW (ad 13) [.ref (ad 14), .ref (ad 15), zv1 1], aI G (ad 14) 4 (js1 3), aI G (ad 15) 8 (js1 4), aI G (ad 16) 4 (js1 0), aR G (ad 17) 40 rr, oW (ad 18) [.ref (ad 19), .ref (ad 20), zv1 3], aI G (ad 19) 4 (js1 5), aI G (ad 20) 8 (js1 6)] ++ rp) H locs := hw1
      refine lv_iconst (v := nI 0) hx hb d_X_go_24 rfl ?_
      refine lv_istore_n (lv' := [(2, .int (nI 0)), (0, .ref (ad 0)), (1, .int (nI nn))]) hx hb d_X_go_25 rfl hl (by decide) rfl (fun ls hl => ?_)
      have Lp26 : ∀ N_26 : Nat, ∀ (k : Nat) (E2 : List Ent) (S2 : List Nat) (md2 : Nat) (ag2 : Nat) (ov2 : Nat) (qa2 : Nat → Nat) (fm2 : Nat → Int64) (fs2 : Nat → Nat → Int32) (js2 : Nat → Nat → Int32) (zv2 : Nat → Value), (k ≤ nn) → (rnA ps B n room rs (nn - k) (E2, S2, md2, ag2, ov2) = (Ef, Sf, mdf, agf, ovf)) → (SI n room (E2, S2, md2, ag2, ov2)) → (XR E2 (jx j E2.length) fm2 fs2) → (XS S2 (fs2 5)) → nn - k < N_26 → ∀ (H : Heap) (locs : List Loc) (ls : Array Slot), lv_has ls 3 [(0, .ref (ad 0)), (1, .int (nI nn)), (2, .int (nI k))] → WW G A zs ([oX (ad 0) [.int (nI n), .int (nI room), .int (nI Sx), .int (nI Kx), .ref (ad 17), .int (nI rs.length), .ref (ad 1), .ref (ad 2), .int (nI ps.length), .ref (qa2 1), .ref (qa2 2), .ref (qa2 3), .ref (qa2 4), .ref (qa2 5), .ref (qa2 6), .int (nI E2.length), .int (nI S2.length), .ref (qa2 7), .int (boF ov2 E2.length), .int (fuF ov2), .int (nI md2), .int (nI ag2), .ref (ad 18), .ref (ad 10), .ref (ad 13), .ref (ad 16), zv2 2], aZ G (ad 1) 64 fb, aI G (ad 2) 96 fn, aJ G (qa2 1) (64 * 2 ^ (jx j E2.length)) fm2, aI G (qa2 2) (64 * 2 ^ (jx j E2.length)) (fs2 2), aI G (qa2 3) (64 * 2 ^ (jx j E2.length)) (fs2 3), aI G (qa2 4) (64 * 2 ^ (jx j E2.length)) (fs2 4), aI G (qa2 5) (64 * 2 ^ (jx j E2.length)) (fs2 5), aI G (qa2 6) (64 * 2 ^ (jx j E2.length)) (fs2 6), aI G (qa2 7) (2 ^ (8 + (jx j E2.length))) (fs2 7), oW (ad 10) [.ref (ad 11), .ref (ad 12), zv2 0], aI G (ad 11) 4 (js2 1), aI G (ad 12) 8 (js2 2), oW (ad 13) [.ref (ad 14), .ref (ad 15), zv2 1], aI G (ad 14) 4 (js2 3), aI G (ad 15) 8 (js2 4), aI G (ad 16) 4 (js2 0), aR G (ad 17) 40 rr, oW (ad 18) [.ref (ad 19), .ref (ad 20), zv2 3], aI G (ad 19) 4 (js2 5), aI G (ad 20) 8 (js2 6)] ++ rp) H locs → W zp zl ze R zs zm args below meth zc H locs (7 * (jx j E2.length - j)) (1280 * 2 ^ jx j E2.length - 1280 * 2 ^ j) Q (F0 zm 26 ls []) := by
        intro N_26
        induction N_26 with
        | zero => intros; omega
        | succ N_26 ih_26 =>
          intro k E2 S2 md2 ag2 ov2 qa2 fm2 fs2 js2 zv2 hk hσ hSI2 hX2 hXS2 hN_26 H locs ls hl hw
          have hLf2 := rnA_len (ps := ps) (B := B) (n := n) (room := room) (rs := rs) (nn - k) (E2, S2, md2, ag2, ov2)
          rw [hσ] at hLf2
          have hSl := hSI2.2.2.1
          have hE8 := hSI2.1.2.2
          have ho22 := hSI2.2.1
          dsimp only at hLf2 hSl hE8 ho22
          have hJ0 := jx_room (j := j) (Nat.le_refl E2.length) hLf2
          refine lv_iload_n hx hb d_X_go_26 rfl (lv_at hl 2 rfl) ?_
          refine lv_iload_n hx hb d_X_go_27 rfl (lv_at hl 1 rfl) ?_
          refine r_icmp_ge (tgt := 84) hx hb (by omega) (by omega) d_X_go_28 (by decide) (fun c_28 => ?_) (fun c_28 => ?_)
          · skip
            have hstop : ¬ (ov2 = 0 ∧ S2.length < E2.length) ∨ nn - k = 0 := Or.inr (by omega)
            rw [go_stop hstop] at hσ
            obtain ⟨rfl, rfl, rfl, rfl, rfl⟩ := five_eq hσ.symm
            refine lv_aload_n hx hb d_X_go_84 rfl (lv_at hl 0 rfl) ?_
            refine g_X_99 hx hb hts hown hK hw 0 rfl rfl d_X_go_85 ?_
            exact r_ret hQ (r_iret (qa2, fm2, fs2, js2, zv2) hx hb hr hlk hw (⟨rfl, hX2, hXS2⟩) (by omega) (by omega) d_X_go_88)
          · skip
            refine lv_aload_n hx hb d_X_go_31 rfl (lv_at hl 0 rfl) ?_
            refine xV_i (rest := []) (As := []) hx hb hml hown hts hK hA hw k_X_207 (c_X_isOver zl G (ad 0) (.int (nI n)) (.int (nI room)) (.int (nI Sx)) (.int (nI Kx)) (.ref (ad 17)) (.int (nI rs.length)) (.ref (ad 1)) (.ref (ad 2)) (.int (nI ps.length)) (.ref (qa2 1)) (.ref (qa2 2)) (.ref (qa2 3)) (.ref (qa2 4)) (.ref (qa2 5)) (.ref (qa2 6)) (.int (nI E2.length)) (.int (nI S2.length)) (.ref (qa2 7)) (.int (nI md2)) (.int (nI ag2)) (.ref (ad 18)) (.ref (ad 10)) (.ref (ad 13)) (.ref (ad 16)) (zv2 2) (boF ov2 E2.length) (fuF ov2)) ([0]) rfl rfl (fun _ => Nat.le_of_ble_eq_true rfl) 0 rfl rfl rfl rfl hl.1 (Nat.le_of_ble_eq_true rfl) ⟨(by omega), (by omega)⟩ ⟨(by omega), (by omega)⟩ d_X_go_32 (fun r u H locs hp hw1 => ?_)
            refine W.cs (cells' := 7 * (jx j E2.length - j)) (slots' := 1280 * 2 ^ jx j E2.length - 1280 * 2 ^ j) rfl rfl ?_
            replace hw : WW G A zs ([oX (ad 0) [.int (nI n), .int (nI room), .int (nI Sx), .int (nI Kx), .ref (ad 17), .int (nI rs.length), .ref (ad 1), .ref (ad 2), .int (nI ps.length), .ref (qa2 1), .ref (qa2 2), .ref (qa2 3), .ref (qa2 4), .ref (qa2 5), .ref (qa2 6), .int (nI E2.length), .int (nI S2.length), .ref (qa2 7), .int (boF ov2 E2.length), .int (fuF ov2), .int (nI md2), .int (nI ag2), .ref (ad 18), .ref (ad 10), .ref (ad 13), .ref (ad 16), zv2 2], aZ G (ad 1) 64 fb, aI G (ad 2) 96 fn, aJ G (qa2 1) (64 * 2 ^ (jx j E2.length)) fm2, aI G (qa2 2) (64 * 2 ^ (jx j E2.length)) (fs2 2), aI G (qa2 3) (64 * 2 ^ (jx j E2.length)) (fs2 3), aI G (qa2 4) (64 * 2 ^ (jx j E2.length)) (fs2 4), aI G (qa2 5) (64 * 2 ^ (jx j E2.length)) (fs2 5), aI G (qa2 6) (64 * 2 ^ (jx j E2.length)) (fs2 6), aI G (qa2 7) (2 ^ (8 + (jx j E2.length))) (fs2 7), oW (ad 10) [.ref (ad 11), .ref (ad 12), zv2 0], aI G (ad 11) 4 (js2 1), aI G (ad 12) 8 (js2 2), oW (ad 13) [.ref (ad 14), .ref (ad 15), zv2 1], aI G (ad 14) 4 (js2 3), aI G (ad 15) 8 (js2 4), aI G (ad 16) 4 (js2 0), aR G (ad 17) 40 rr, oW (ad 18) [.ref (ad 19), .ref (ad 20), zv2 3], aI G (ad 19) 4 (js2 5), aI G (ad 20) 8 (js2 6)] ++ rp) H locs := hw1
            refine lv_if_ne (tgt := 84) hx hb d_X_go_35 (by decide) (fun c_35 => ?_) (fun c_35 => ?_)
            · skip
              have hstop : ¬ (ov2 = 0 ∧ S2.length < E2.length) ∨ nn - k = 0 := Or.inl (fun z => c_35 (by rw [hp, if_pos ((over_iff (m := E2.length) ho22 (by omega)).mpr z.1)]; rfl))
              rw [go_stop hstop] at hσ
              obtain ⟨rfl, rfl, rfl, rfl, rfl⟩ := five_eq hσ.symm
              refine lv_aload_n hx hb d_X_go_84 rfl (lv_at hl 0 rfl) ?_
              refine g_X_99 hx hb hts hown hK hw 0 rfl rfl d_X_go_85 ?_
              exact r_ret hQ (r_iret (qa2, fm2, fs2, js2, zv2) hx hb hr hlk hw (⟨rfl, hX2, hXS2⟩) (by omega) (by omega) d_X_go_88)
            · skip
              have hov2 : ov2 = 0 := (over_iff (m := E2.length) ho22 (by omega)).mp (Decidable.byContradiction fun z => absurd c_35 (by rw [hp, if_neg z]; decide))
              refine lv_aload_n hx hb d_X_go_38 rfl (lv_at hl 0 rfl) ?_
              refine g_X_102 hx hb hts hown hK hw 0 rfl rfl d_X_go_39 ?_
              refine lv_aload_n hx hb d_X_go_42 rfl (lv_at hl 0 rfl) ?_
              refine g_X_99 hx hb hts hown hK hw 0 rfl rfl d_X_go_43 ?_
              refine r_icmp_ge (tgt := 84) hx hb (by omega) (by omega) d_X_go_46 (by decide) (fun c_46 => ?_) (fun c_46 => ?_)
              · skip
                have hstop : ¬ (ov2 = 0 ∧ S2.length < E2.length) ∨ nn - k = 0 := Or.inl (fun z => by omega)
                rw [go_stop hstop] at hσ
                obtain ⟨rfl, rfl, rfl, rfl, rfl⟩ := five_eq hσ.symm
                refine lv_aload_n hx hb d_X_go_84 rfl (lv_at hl 0 rfl) ?_
                refine g_X_99 hx hb hts hown hK hw 0 rfl rfl d_X_go_85 ?_
                exact r_ret hQ (r_iret (qa2, fm2, fs2, js2, zv2) hx hb hr hlk hw (⟨rfl, hX2, hXS2⟩) (by omega) (by omega) d_X_go_88)
              · skip
                have hgl : S2.length < E2.length := c_46
                refine lv_aload_n hx hb d_X_go_49 rfl (lv_at hl 0 rfl) ?_
                refine lv_aload_n hx hb d_X_go_50 rfl (lv_at hl 0 rfl) ?_
                refine g_X_102 hx hb hts hown hK hw 0 rfl rfl d_X_go_51 ?_
                obtain ⟨f1, hf1⟩ : ∃ f1, nn - k = f1 + 1 := ⟨nn - k - 1, by omega⟩
                rw [hf1] at hσ
                rw [rnA_go (σ := (E2, S2, md2, ag2, ov2)) ⟨hov2, hgl⟩] at hσ
                obtain ⟨⟨E3, cnt3, md3, ag3, ov3⟩, hst3⟩ : ∃ z : E5, nodesA ps B n room (E2.getD S2.length eD).1 S2.length rs n (E2, 0, md2, ag2, ov2) = z := ⟨_, rfl⟩
                have hst4 : goS ps B n room rs (E2, S2, md2, ag2, ov2) = (E3, (if ov3 = 0 then S2 ++ [cnt3] else S2), md3, ag3, ov3) := by unfold goS goN; rw [hst3]; rfl
                have hok := goS_ok (B := B) (rs := rs) hSI2 hcf.2.2.1 hcf.2.2.2.2.1 hcf.1 hrp.2.1 hgl
                rw [hst4] at hok hσ
                have hL2 := goN_len (ps := ps) (B := B) (n := n) (room := room) (rs := rs) (σ := (E2, S2, md2, ag2, ov2))
                unfold goN at hL2
                rw [hst3] at hL2
                have hL3 := rnA_len (ps := ps) (B := B) (n := n) (room := room) (rs := rs) f1 (E3, (if ov3 = 0 then S2 ++ [cnt3] else S2), md3, ag3, ov3)
                rw [hσ] at hL3
                dsimp only at hL2 hL3
                have hJ := jx_room (j := j) hL2 hL3
                have hJp : 2 ^ jx (jx j E2.length) E3.length = 2 ^ jx j E3.length := by rw [hJ.1]
                refine xVA_v (rest := []) (As := [.int (nI S2.length)]) hx hb hml hown hts hK hA hw k_X_240 (c_X_goThrough zl G ad qa2 fm2 fs2 js2 zv2 fb fn rr rp n room Sx Kx S2.length (jx j E2.length) ps B rs E2 E3 md2 ag2 ov2 cnt3 md3 ag3 ov3 S2.length (E2.getD S2.length eD).1 hcf hX2 hSI2.1 hSI2.2.1 hrp hgl rfl hst3) 0 rfl rfl rfl rfl hl.1 (Nat.le_of_ble_eq_true rfl) ⟨(by omega), (by omega)⟩ ⟨(by omega), (by omega)⟩ d_X_go_54 (fun _ u9 H locs hp hw1 => ?_)
                obtain ⟨qa3, fm3, fs3, js3, zv3⟩ := u9
                obtain ⟨hX3, hc3, ho3⟩ := hp
                dsimp only at hX3 hc3 ho3
                rw [hJ.1] at hX3
                replace hw : WW G A zs ([oX (ad 0) [.int (nI n), .int (nI room), .int (nI Sx), .int (nI Kx), .ref (ad 17), .int (nI rs.length), .ref (ad 1), .ref (ad 2), .int (nI ps.length), .ref (qa3 1), .ref (qa3 2), .ref (qa3 3), .ref (qa3 4), .ref (qa3 5), .ref (qa3 6), .int (nI E3.length), .int (nI S2.length), .ref (qa3 7), .int (boF ov3 E3.length), .int (fuF ov3), .int (nI md3), .int (nI ag3), .ref (ad 18), .ref (ad 10), .ref (ad 13), .ref (ad 16), zv3 2], aZ G (ad 1) 64 fb, aI G (ad 2) 96 fn, aJ G (qa3 1) (64 * 2 ^ (jx j E3.length)) fm3, aI G (qa3 2) (64 * 2 ^ (jx j E3.length)) (fs3 2), aI G (qa3 3) (64 * 2 ^ (jx j E3.length)) (fs3 3), aI G (qa3 4) (64 * 2 ^ (jx j E3.length)) (fs3 4), aI G (qa3 5) (64 * 2 ^ (jx j E3.length)) (fs3 5), aI G (qa3 6) (64 * 2 ^ (jx j E3.length)) (fs3 6), aI G (qa3 7) (2 ^ (8 + (jx j E3.length))) (fs3 7), oW (ad 10) [.ref (ad 11), .ref (ad 12), zv3 0], aI G (ad 11) 4 (js3 1), aI G (ad 12) 8 (js3 2), oW (ad 13) [.ref (ad 14), .ref (ad 15), zv3 1], aI G (ad 14) 4 (js3 3), aI G (ad 15) 8 (js3 4), aI G (ad 16) 4 (js3 0), aR G (ad 17) 40 rr, oW (ad 18) [.ref (ad 19), .ref (ad 20), zv3 3], aI G (ad 19) 4 (js3 5), aI G (ad 20) 8 (js3 6)] ++ rp) H locs := by rw [← hJ.1]; exact hw1
                refine lv_aload_n hx hb d_X_go_57 rfl (lv_at hl 0 rfl) ?_
                refine lv_dup hx hb d_X_go_58 rfl ?_
                refine g_X_102 hx hb hts hown hK hw 0 rfl rfl d_X_go_59 ?_
                refine lv_aload_n hx hb d_X_go_62 rfl (lv_at hl 0 rfl) ?_
                refine xV_i (rest := [.int (nI S2.length), .ref (ad 0)]) (As := []) hx hb hml hown hts hK hA hw k_X_207 (c_X_isOver zl G (ad 0) (.int (nI n)) (.int (nI room)) (.int (nI Sx)) (.int (nI Kx)) (.ref (ad 17)) (.int (nI rs.length)) (.ref (ad 1)) (.ref (ad 2)) (.int (nI ps.length)) (.ref (qa3 1)) (.ref (qa3 2)) (.ref (qa3 3)) (.ref (qa3 4)) (.ref (qa3 5)) (.ref (qa3 6)) (.int (nI E3.length)) (.int (nI S2.length)) (.ref (qa3 7)) (.int (nI md3)) (.int (nI ag3)) (.ref (ad 18)) (.ref (ad 10)) (.ref (ad 13)) (.ref (ad 16)) (zv3 2) (boF ov3 E3.length) (fuF ov3)) ([0]) rfl rfl (fun _ => Nat.le_of_ble_eq_true rfl) 0 rfl rfl rfl rfl hl.1 (Nat.le_of_ble_eq_true rfl) ⟨(by omega), (by omega)⟩ ⟨(by omega), (by omega)⟩ d_X_go_63 (fun r u H locs hp hw1 => ?_)
                refine W.cs (cells' := 7 * (jx j E2.length - j) + (7 * (jx (jx j E2.length) E3.length - jx j E2.length))) (slots' := 1280 * 2 ^ jx j E2.length - 1280 * 2 ^ j + (1280 * 2 ^ jx (jx j E2.length) E3.length - 1280 * 2 ^ jx j E2.length)) rfl rfl ?_
                replace hw : WW G A zs ([oX (ad 0) [.int (nI n), .int (nI room), .int (nI Sx), .int (nI Kx), .ref (ad 17), .int (nI rs.length), .ref (ad 1), .ref (ad 2), .int (nI ps.length), .ref (qa3 1), .ref (qa3 2), .ref (qa3 3), .ref (qa3 4), .ref (qa3 5), .ref (qa3 6), .int (nI E3.length), .int (nI S2.length), .ref (qa3 7), .int (boF ov3 E3.length), .int (fuF ov3), .int (nI md3), .int (nI ag3), .ref (ad 18), .ref (ad 10), .ref (ad 13), .ref (ad 16), zv3 2], aZ G (ad 1) 64 fb, aI G (ad 2) 96 fn, aJ G (qa3 1) (64 * 2 ^ (jx j E3.length)) fm3, aI G (qa3 2) (64 * 2 ^ (jx j E3.length)) (fs3 2), aI G (qa3 3) (64 * 2 ^ (jx j E3.length)) (fs3 3), aI G (qa3 4) (64 * 2 ^ (jx j E3.length)) (fs3 4), aI G (qa3 5) (64 * 2 ^ (jx j E3.length)) (fs3 5), aI G (qa3 6) (64 * 2 ^ (jx j E3.length)) (fs3 6), aI G (qa3 7) (2 ^ (8 + (jx j E3.length))) (fs3 7), oW (ad 10) [.ref (ad 11), .ref (ad 12), zv3 0], aI G (ad 11) 4 (js3 1), aI G (ad 12) 8 (js3 2), oW (ad 13) [.ref (ad 14), .ref (ad 15), zv3 1], aI G (ad 14) 4 (js3 3), aI G (ad 15) 8 (js3 4), aI G (ad 16) 4 (js3 0), aR G (ad 17) 40 rr, oW (ad 18) [.ref (ad 19), .ref (ad 20), zv3 3], aI G (ad 19) 4 (js3 5), aI G (ad 20) 8 (js3 6)] ++ rp) H locs := hw1
                refine lv_if_eq (tgt := 73) hx hb d_X_go_66 (by decide) (fun c_66 => ?_) (fun c_66 => ?_)
                · skip
                  have hov3 : ov3 = 0 := (over_iff (m := E3.length) hok.1.2.1 (by have := hok.1.1.2.2; dsimp only at this; omega)).mp (Decidable.byContradiction fun z => absurd c_66 (by rw [hp, if_neg z]; decide))
                  refine lv_iconst (v := nI 1) hx hb d_X_go_73 rfl ?_
                  refine r_iaddN hx hb d_X_go_74 ?_
                  refine r_eq (show nI (S2.length + 1) = nI ((S2 ++ [cnt3]).length) from congrArg nI (by rw [List.length_append]; rfl)) ?_
                  refine p_X_102 hx hb hts hown hK hw 0 rfl (Nat.le_of_ble_eq_true rfl) d_X_go_75 (fun H locs hw1 => ?_)
                  replace hw : WW G A zs ([oX (ad 0) [.int (nI n), .int (nI room), .int (nI Sx), .int (nI Kx), .ref (ad 17), .int (nI rs.length), .ref (ad 1), .ref (ad 2), .int (nI ps.length), .ref (qa3 1), .ref (qa3 2), .ref (qa3 3), .ref (qa3 4), .ref (qa3 5), .ref (qa3 6), .int (nI E3.length), .int (nI ((S2 ++ [cnt3]).length)), .ref (qa3 7), .int (boF ov3 E3.length), .int (fuF ov3), .int (nI md3), .int (nI ag3), .ref (ad 18), .ref (ad 10), .ref (ad 13), .ref (ad 16), zv3 2], aZ G (ad 1) 64 fb, aI G (ad 2) 96 fn, aJ G (qa3 1) (64 * 2 ^ (jx j E3.length)) fm3, aI G (qa3 2) (64 * 2 ^ (jx j E3.length)) (fs3 2), aI G (qa3 3) (64 * 2 ^ (jx j E3.length)) (fs3 3), aI G (qa3 4) (64 * 2 ^ (jx j E3.length)) (fs3 4), aI G (qa3 5) (64 * 2 ^ (jx j E3.length)) (fs3 5), aI G (qa3 6) (64 * 2 ^ (jx j E3.length)) (fs3 6), aI G (qa3 7) (2 ^ (8 + (jx j E3.length))) (fs3 7), oW (ad 10) [.ref (ad 11), .ref (ad 12), zv3 0], aI G (ad 11) 4 (js3 1), aI G (ad 12) 8 (js3 2), oW (ad 13) [.ref (ad 14), .ref (ad 15), zv3 1], aI G (ad 14) 4 (js3 3), aI G (ad 15) 8 (js3 4), aI G (ad 16) 4 (js3 0), aR G (ad 17) 40 rr, oW (ad 18) [.ref (ad 19), .ref (ad 20), zv3 3], aI G (ad 19) 4 (js3 5), aI G (ad 20) 8 (js3 6)] ++ rp) H locs := hw1
                  refine r_iincN (n := 1) (lv' := [(2, .int (nI (k + 1))), (0, .ref (ad 0)), (1, .int (nI nn))]) hx hb d_X_go_78 hl (k := 2) rfl (by decide) rfl (fun ls hl => ?_)
                  refine lv_goto (tgt := 26) hx hb d_X_go_81 (by decide) ?_
                  refine W.widen (k := 7 * (jx j E3.length - j)) (n := 1280 * 2 ^ jx j E3.length - 1280 * 2 ^ j) (by omega) (by omega) ?_
                  exact ih_26 (k + 1) E3 (S2 ++ [cnt3]) md3 ag3 ov3 qa3 fm3 fs3 js3 zv3 (by omega) (by rw [if_pos hov3] at hσ; rw [show nn - (k + 1) = f1 by omega]; exact hσ) (by have hz := hok.1; rw [if_pos hov3] at hz; exact hz) hX3 (XS.snoc (fun i hi => by rw [ho3 i (by omega) (by omega)]; exact hXS2 i hi) hc3) (by omega) _ _ _ (lv_sub hl [1, 2, 0] rfl) hw
                · skip
                  have hov3 : ¬ ov3 = 0 := fun z => c_66 (by rw [hp, if_pos ((over_iff (m := E3.length) hok.1.2.1 (by have := hok.1.1.2.2; dsimp only at this; omega)).mpr z)]; rfl)
                  refine lv_iconst (v := nI 0) hx hb d_X_go_69 rfl ?_
                  refine lv_goto (tgt := 74) hx hb d_X_go_70 (by decide) ?_
                  refine r_iaddN hx hb d_X_go_74 ?_
                  refine r_eq (show nI (S2.length + 0) = nI S2.length from congrArg nI (Nat.add_zero _)) ?_
                  refine p_X_102 hx hb hts hown hK hw 0 rfl (Nat.le_of_ble_eq_true rfl) d_X_go_75 (fun H locs hw1 => ?_)
                  replace hw : WW G A zs ([oX (ad 0) [.int (nI n), .int (nI room), .int (nI Sx), .int (nI Kx), .ref (ad 17), .int (nI rs.length), .ref (ad 1), .ref (ad 2), .int (nI ps.length), .ref (qa3 1), .ref (qa3 2), .ref (qa3 3), .ref (qa3 4), .ref (qa3 5), .ref (qa3 6), .int (nI E3.length), .int (nI S2.length), .ref (qa3 7), .int (boF ov3 E3.length), .int (fuF ov3), .int (nI md3), .int (nI ag3), .ref (ad 18), .ref (ad 10), .ref (ad 13), .ref (ad 16), zv3 2], aZ G (ad 1) 64 fb, aI G (ad 2) 96 fn, aJ G (qa3 1) (64 * 2 ^ (jx j E3.length)) fm3, aI G (qa3 2) (64 * 2 ^ (jx j E3.length)) (fs3 2), aI G (qa3 3) (64 * 2 ^ (jx j E3.length)) (fs3 3), aI G (qa3 4) (64 * 2 ^ (jx j E3.length)) (fs3 4), aI G (qa3 5) (64 * 2 ^ (jx j E3.length)) (fs3 5), aI G (qa3 6) (64 * 2 ^ (jx j E3.length)) (fs3 6), aI G (qa3 7) (2 ^ (8 + (jx j E3.length))) (fs3 7), oW (ad 10) [.ref (ad 11), .ref (ad 12), zv3 0], aI G (ad 11) 4 (js3 1), aI G (ad 12) 8 (js3 2), oW (ad 13) [.ref (ad 14), .ref (ad 15), zv3 1], aI G (ad 14) 4 (js3 3), aI G (ad 15) 8 (js3 4), aI G (ad 16) 4 (js3 0), aR G (ad 17) 40 rr, oW (ad 18) [.ref (ad 19), .ref (ad 20), zv3 3], aI G (ad 19) 4 (js3 5), aI G (ad 20) 8 (js3 6)] ++ rp) H locs := hw1
                  refine r_iincN (n := 1) (lv' := [(2, .int (nI (k + 1))), (0, .ref (ad 0)), (1, .int (nI nn))]) hx hb d_X_go_78 hl (k := 2) rfl (by decide) rfl (fun ls hl => ?_)
                  refine lv_goto (tgt := 26) hx hb d_X_go_81 (by decide) ?_
                  refine W.widen (k := 7 * (jx j E3.length - j)) (n := 1280 * 2 ^ jx j E3.length - 1280 * 2 ^ j) (by omega) (by omega) ?_
                  exact ih_26 (k + 1) E3 S2 md3 ag3 ov3 qa3 fm3 fs3 js3 zv3 (by omega) (by rw [if_neg hov3] at hσ; rw [show nn - (k + 1) = f1 by omega]; exact hσ) (by have hz := hok.1; rw [if_neg hov3] at hz; exact hz) hX3 (fun i hi => by rw [ho3 i (by omega) (by omega)]; exact hXS2 i hi) (by omega) _ _ _ (lv_sub hl [1, 2, 0] rfl) hw
      refine W.widen (k := 7 * (jx j E1.length - j)) (n := 1280 * 2 ^ jx j E1.length - 1280 * 2 ^ j) (by omega) (by omega) ?_
      exact Lp26 _ 0 E1 S md ag1 ov1 qa1 fm1 fs1 js1 zv1 (by omega) hst hSI1 hX1 (fun i hi => by rw [ho1 i (Nat.lt_of_lt_of_le hi hSI.2.2.1)]; exact hXS i hi) (Nat.lt_succ_self _) _ _ _ (lv_sub hl [1, 2, 0] rfl) hw
