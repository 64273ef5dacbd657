theorem recv_lz {w : Wh} {k : Nat} {la : Int32} (hla : la = if k = 0 then -1 else nI (w.2.getD (k - 1) 0)) (h : k = 0 ∨ w.2.getD (k - 1) 0 ≠ w.2.getD k 0) (hc : nI (w.2.getD k 0) = la) (hb : w.2.getD k 0 < 96 ∧ w.2.getD (k - 1) 0 < 96) : False := by
  rw [hla] at hc
  split at hc
  · exact nI_neg (by omega) hc
  · have := (nI_eq (by omega) (by omega)).mp hc
    rcases h with h | h <;> omega
theorem recv_ln {w : Wh} {k : Nat} {la : Int32} (hla : la = if k = 0 then -1 else nI (w.2.getD (k - 1) 0)) (hc : ¬ nI (w.2.getD k 0) = la) : k = 0 ∨ w.2.getD (k - 1) 0 ≠ w.2.getD k 0 := by
  by_cases h : k = 0
  · exact Or.inl h
  · right
    intro z
    rw [if_neg h] at hla
    exact hc (by rw [hla, z])
set_option maxHeartbeats 4000000 in
set_option maxRecDepth 100000 in
theorem c_X_receive (zl : Launch) (G : GG) (ad qa : Nat → Nat) (fm : Nat → Int64) (fs js : Nat → Nat → Int32) (zv : Nat → Value) (fb fn fh gh : Nat → Int32) (rr : Nat → Option Nat) (rp : va_W) (n room Sx Kx gn j : Nat) (ps : List (List Nat)) (B : Nat → Bool) (rs : List Rl) (E E1 : List Ent) (cnt md ag ov cnt1 md1 ag1 ov1 fr ru nd ev : Nat) (w : Wh) (hcf : CF n ps B fb fn) (hX : XR E j fm fs) (hE : EOK n room E) (ho2 : ov ≤ 2) (hV : Vl n w) (hfh : Sts fh w) (hgh : Cds gh 0 w.2) (hrp : RP G rr rs rp) (hru : ru < rs.length) (hfr : fr < E.length) (hcnt : fs 5 fr = nI cnt) (hnd : nd < n) (hev : (rs.getD ru rD).2.1 = some ev) (hst : recvA ps B n room w fr ru nd ev (rs.getD ru rD) w.2.length (E, cnt, md, ag, ov) = (E1, cnt1, md1, ag1, ov1)) : Ctr (S := (Nat → Nat) × (Nat → Int64) × (Nat → Nat → Int32) × (Nat → Nat → Int32) × (Nat → Value)) vV zl y_X_receive b_X_receive 7 (Option.none : Option Jvm.ClassFile.FieldType) 5 (7 * (jx j E1.length - j)) (1280 * 2 ^ jx j E1.length - 1280 * 2 ^ j) G [.ref (ad 0), .int (nI fr), .int (nI ru), .int (nI nd)] ([oX (ad 0) [.int (nI n), .int (nI room), .int (nI Sx), .int (nI Kx), .ref (ad 17), .int (nI rs.length), .ref (ad 1), .ref (ad 2), .int (nI ps.length), .ref (qa 1), .ref (qa 2), .ref (qa 3), .ref (qa 4), .ref (qa 5), .ref (qa 6), .int (nI E.length), .int (nI gn), .ref (qa 7), .int (boF ov E.length), .int (fuF ov), .int (nI md), .int (nI ag), .ref (ad 18), .ref (ad 10), .ref (ad 13), .ref (ad 16), zv 2], aZ G (ad 1) 64 fb, aI G (ad 2) 96 fn, aJ G (qa 1) (64 * 2 ^ j) fm, aI G (qa 2) (64 * 2 ^ j) (fs 2), aI G (qa 3) (64 * 2 ^ j) (fs 3), aI G (qa 4) (64 * 2 ^ j) (fs 4), aI G (qa 5) (64 * 2 ^ j) (fs 5), aI G (qa 6) (64 * 2 ^ j) (fs 6), aI G (qa 7) (2 ^ (8 + j)) (fs 7), oW (ad 10) [.ref (ad 11), .ref (ad 12), zv 0], aI G (ad 11) 4 (js 1), aI G (ad 12) 8 (js 2), oW (ad 13) [.ref (ad 14), .ref (ad 15), zv 1], aI G (ad 14) 4 (js 3), aI G (ad 15) 8 (js 4), aI G (ad 16) 4 (js 0), aR G (ad 17) 40 rr, oW (ad 18) [.ref (ad 19), .ref (ad 20), .int (nI w.2.length)], aI G (ad 19) 4 fh, aI G (ad 20) 8 gh] ++ rp) (fun _ u => XR E1 (jx j E1.length) u.2.1 u.2.2.1 ∧ u.2.2.1 5 fr = nI cnt1 ∧ ∀ k, k < E.length → k ≠ fr → u.2.2.1 5 k = fs 5 k) (fun u => [oX (ad 0) [.int (nI n), .int (nI room), .int (nI Sx), .int (nI Kx), .ref (ad 17), .int (nI rs.length), .ref (ad 1), .ref (ad 2), .int (nI ps.length), .ref (u.1 1), .ref (u.1 2), .ref (u.1 3), .ref (u.1 4), .ref (u.1 5), .ref (u.1 6), .int (nI E1.length), .int (nI gn), .ref (u.1 7), .int (boF ov1 E1.length), .int (fuF ov1), .int (nI md1), .int (nI ag1), .ref (ad 18), .ref (ad 10), .ref (ad 13), .ref (ad 16), u.2.2.2.2 2], aZ G (ad 1) 64 fb, aI G (ad 2) 96 fn, aJ G (u.1 1) (64 * 2 ^ (jx j E1.length)) u.2.1, aI G (u.1 2) (64 * 2 ^ (jx j E1.length)) (u.2.2.1 2), aI G (u.1 3) (64 * 2 ^ (jx j E1.length)) (u.2.2.1 3), aI G (u.1 4) (64 * 2 ^ (jx j E1.length)) (u.2.2.1 4), aI G (u.1 5) (64 * 2 ^ (jx j E1.length)) (u.2.2.1 5), aI G (u.1 6) (64 * 2 ^ (jx j E1.length)) (u.2.2.1 6), aI G (u.1 7) (2 ^ (8 + (jx j E1.length))) (u.2.2.1 7), oW (ad 10) [.ref (ad 11), .ref (ad 12), u.2.2.2.2 0], aI G (ad 11) 4 (u.2.2.2.1 1), aI G (ad 12) 8 (u.2.2.2.1 2), oW (ad 13) [.ref (ad 14), .ref (ad 15), u.2.2.2.2 1], aI G (ad 14) 4 (u.2.2.2.1 3), aI G (ad 15) 8 (u.2.2.2.1 4), aI G (ad 16) 4 (u.2.2.2.1 0), aR G (ad 17) 40 rr, oW (ad 18) [.ref (ad 19), .ref (ad 20), .int (nI w.2.length)], aI G (ad 19) 4 fh, aI G (ad 20) 8 gh] ++ rp) := by
  refine Ctr.start (by decide) (Nat.le_of_ble_eq_true rfl) ?_
  intro zp ze zs zm below meth zc A ls C0 hin hK hA hl hw
  obtain ⟨hx, hb, hr, hlk, hml, hown, hts⟩ := C0
  obtain ⟨R, hRR⟩ : ∃ R : Room, R = rmL 5 (7 * (jx j E1.length - j)) (1280 * 2 ^ jx j E1.length - 1280 * 2 ^ j) := ⟨_, rfl⟩
  have hRf : R.frames = 5 := by rw [hRR]
  have hRl : R.locals = 64 * 5 := by rw [hRR]
  have hRc : R.cells = 7 * (jx j E1.length - j) := by rw [hRR]
  have hRs : R.slots = 1280 * 2 ^ jx j E1.length - 1280 * 2 ^ j := by rw [hRR]
  rw [← hRR]; clear hRR
  generalize hQ : MQ below _ _ zs _ _ A = Q
  generalize hAr : List.toArray _ = args at hts hQ ⊢
  replace hl : lv_has ls 7 [(0, .ref (ad 0)), (1, .int (nI fr)), (2, .int (nI ru)), (3, .int (nI nd))] := hl
  obtain ⟨H, eH⟩ : ∃ H : Heap, H = zs.heap := ⟨_, rfl⟩
  obtain ⟨locs, eL⟩ : ∃ l0 : List Loc, l0 = [] := ⟨_, rfl⟩
  rw [← eH, ← eL] at hw ⊢; clear eH eL
  have hro := rs_at hrp.2.1 hru
  have hev6 := hro.2.1 ev hev
  have hn4 := hcf.1
  have hrl := hrp.1
  have hjj := jx_in hX.2.2.1 hX.2.2.2
  have hlw := hV.2.2.2.1
  have hS0 : SOK n room E (E, cnt, md, ag, ov) := ⟨hE, ho2, Nat.le_refl _, fun _ _ => rfl⟩
  obtain ⟨ra, ka, wa, fk9, fw9, hr0, hr1, hr2, hr3, hr4, hr5⟩ := hrp.2.2.2 ru hru
  refine lv_iconst (v := -1) hx hb d_X_receive_0 (by decide) ?_
  refine lv_istore (lv' := [(4, .int (-1)), (0, .ref (ad 0)), (1, .int (nI fr)), (2, .int (nI ru)), (3, .int (nI nd))]) hx hb d_X_receive_1 hl (by decide) rfl (fun ls hl => ?_)
  refine lv_iconst (v := nI 0) hx hb d_X_receive_3 rfl ?_
  refine lv_istore (lv' := [(5, .int (nI 0)), (4, .int (-1)), (0, .ref (ad 0)), (1, .int (nI fr)), (2, .int (nI ru)), (3, .int (nI nd))]) hx hb d_X_receive_4 hl (by decide) rfl (fun ls hl => ?_)
  have Lp6 : ∀ N_6 : Nat, ∀ (k : Nat) (la : Int32) (E2 : List Ent) (cnt2 : Nat) (md2 : Nat) (ag2 : Nat) (ov2 : Nat) (qa2 : Nat → Nat) (fm2 : Nat → Int64) (fs2 : Nat → Nat → Int32) (js2 : Nat → Nat → Int32) (zv2 : Nat → Value), (k ≤ w.2.length) → (la = if k = 0 then -1 else nI (w.2.getD (k - 1) 0)) → (recvA ps B n room w fr ru nd ev (rs.getD ru rD) k (E, cnt, md, ag, ov) = (E2, cnt2, md2, ag2, ov2)) → (XR E2 (jx j E2.length) fm2 fs2) → (fs2 5 fr = nI cnt2) → (∀ i, i < E.length → i ≠ fr → fs2 5 i = fs 5 i) → w.2.length - k < N_6 → ∀ (H : Heap) (locs : List Loc) (ls : Array Slot), lv_has ls 7 [(0, .ref (ad 0)), (1, .int (nI fr)), (2, .int (nI ru)), (3, .int (nI nd)), (4, .int la), (5, .int (nI k))] → WW G A zs ([oX (ad 0) [.int (nI n), .int (nI room), .int (nI Sx), .int (nI Kx), .ref (ad 17), .int (nI rs.length), .ref (ad 1), .ref (ad 2), .int (nI ps.length), .ref (qa2 1), .ref (qa2 2), .ref (qa2 3), .ref (qa2 4), .ref (qa2 5), .ref (qa2 6), .int (nI E2.length), .int (nI gn), .ref (qa2 7), .int (boF ov2 E2.length), .int (fuF ov2), .int (nI md2), .int (nI ag2), .ref (ad 18), .ref (ad 10), .ref (ad 13), .ref (ad 16), zv2 2], aZ G (ad 1) 64 fb, aI G (ad 2) 96 fn, aJ G (qa2 1) (64 * 2 ^ (jx j E2.length)) fm2, aI G (qa2 2) (64 * 2 ^ (jx j E2.length)) (fs2 2), aI G (qa2 3) (64 * 2 ^ (jx j E2.length)) (fs2 3), aI G (qa2 4) (64 * 2 ^ (jx j E2.length)) (fs2 4), aI G (qa2 5) (64 * 2 ^ (jx j E2.length)) (fs2 5), aI G (qa2 6) (64 * 2 ^ (jx j E2.length)) (fs2 6), aI G (qa2 7) (2 ^ (8 + (jx j E2.length))) (fs2 7), oW (ad 10) [.ref (ad 11), .ref (ad 12), zv2 0], aI G (ad 11) 4 (js2 1), aI G (ad 12) 8 (js2 2), oW (ad 13) [.ref (ad 14), .ref (ad 15), zv2 1], aI G (ad 14) 4 (js2 3), aI G (ad 15) 8 (js2 4), aI G (ad 16) 4 (js2 0), aR G (ad 17) 40 rr, oW (ad 18) [.ref (ad 19), .ref (ad 20), .int (nI w.2.length)], aI G (ad 19) 4 fh, aI G (ad 20) 8 gh] ++ rp) H locs → W zp zl ze R zs zm args below meth zc H locs (7 * (jx j E2.length - j)) (1280 * 2 ^ jx j E2.length - 1280 * 2 ^ j) Q (F0 zm 6 ls []) := by
    intro N_6
    induction N_6 with
    | zero => intros; omega
    | succ N_6 ih_6 =>
      intro k la E2 cnt2 md2 ag2 ov2 qa2 fm2 fs2 js2 zv2 hk hla hσ hX2 hc2 hs2 hN_6 H locs ls hl hw
      have hS2 := SOK.recv (B := B) (fr := fr) (ru := ru) (ev := ev) hS0 hcf.2.2.1 hcf.2.2.2.2.1 hV hcf.1 hnd hro k
      rw [hσ] at hS2
      dsimp only [SOK] at hS2
      have hL1 := recv_len (ps := ps) (B := B) (n := n) (room := room) (w := w) (fr := fr) (ru := ru) (nd := nd) (ev := ev) (R := (rs.getD ru rD)) (σ := (E, cnt, md, ag, ov)) k (w.2.length - k)
      rw [hσ, show k + (w.2.length - k) = w.2.length by omega, hst] at hL1
      dsimp only at hL1
      have hL0 := hS2.2.2.1
      have hJ0 := jx_room (j := j) hL0 hL1
      have hE8 := hS2.1.2.2
      refine lv_iload hx hb d_X_receive_6 (lv_at hl 5 rfl) ?_
      refine lv_aload_n hx hb d_X_receive_8 rfl (lv_at hl 0 rfl) ?_
      refine g_X_55 hx hb hts hown hK hw 0 rfl rfl d_X_receive_9 ?_
      refine g_X_219 hx hb hts hown hK hw 18 rfl rfl d_X_receive_12 ?_
      refine r_icmp_ge (tgt := 86) hx hb (by omega) (by omega) d_X_receive_15 (by decide) (fun c_15 => ?_) (fun c_15 => ?_)
      · skip
        have hk9 : k = w.2.length := by omega
        rw [hk9] at hσ
        obtain ⟨rfl, rfl, rfl, rfl, rfl⟩ := five_eq (hst.symm.trans hσ)
        exact r_ret hQ (r_vret (qa2, fm2, fs2, js2, zv2) hx hb hr hlk hw (⟨hX2, hc2, hs2⟩) (by omega) (by omega) d_X_receive_86)
      · skip
        have hcb := (hV.at c_15).1
        refine lv_aload_n hx hb d_X_receive_18 rfl (lv_at hl 0 rfl) ?_
        refine g_X_55 hx hb hts hown hK hw 0 rfl rfl d_X_receive_19 ?_
        refine g_X_220 hx hb hts hown hK hw 18 rfl rfl d_X_receive_22 ?_
        refine lv_iload hx hb d_X_receive_25 (lv_at hl 5 rfl) ?_
        refine r_iald hx hb hK hw 20 rfl (by omega) (by omega) d_X_receive_27 ?_
        refine r_eq (show gh k = nI (w.2.getD k 0) from by simpa using hgh k c_15) ?_
        refine lv_istore (lv' := [(6, .int (nI (w.2.getD k 0))), (0, .ref (ad 0)), (1, .int (nI fr)), (2, .int (nI ru)), (3, .int (nI nd)), (4, .int la), (5, .int (nI k))]) hx hb d_X_receive_28 hl (by decide) rfl (fun ls hl => ?_)
        refine lv_iload hx hb d_X_receive_30 (lv_at hl 0 rfl) ?_
        refine lv_iload hx hb d_X_receive_32 (lv_at hl 5 rfl) ?_
        refine lv_icmp_eq (tgt := 76) hx hb d_X_receive_34 (by decide) (fun c_34 => ?_) (fun c_34 => ?_)
        · skip
          have hrc : ¬ recvC w nd ev k := fun z => recv_lz hla z.1 c_34 ⟨hcb, hV.cd _⟩
          refine lv_iload hx hb d_X_receive_76 (lv_at hl 0 rfl) ?_
          refine lv_istore (lv' := [(4, .int (nI (w.2.getD k 0))), (6, .int (nI (w.2.getD k 0))), (0, .ref (ad 0)), (1, .int (nI fr)), (2, .int (nI ru)), (3, .int (nI nd)), (5, .int (nI k))]) hx hb d_X_receive_78 hl (by decide) rfl (fun ls hl => ?_)
          refine r_iincN (n := 1) (lv' := [(5, .int (nI (k + 1))), (4, .int (nI (w.2.getD k 0))), (6, .int (nI (w.2.getD k 0))), (0, .ref (ad 0)), (1, .int (nI fr)), (2, .int (nI ru)), (3, .int (nI nd))]) hx hb d_X_receive_80 hl (k := 6) rfl (by decide) rfl (fun ls hl => ?_)
          refine lv_goto (tgt := 6) hx hb d_X_receive_83 (by decide) ?_
          refine W.widen (k := 7 * (jx j E2.length - j)) (n := 1280 * 2 ^ jx j E2.length - 1280 * 2 ^ j) (by omega) (by omega) ?_
          exact ih_6 (k + 1) (nI (w.2.getD k 0)) E2 cnt2 md2 ag2 ov2 qa2 fm2 fs2 js2 zv2 (by omega) (by rw [if_neg (by omega)]; rfl) (by rw [recvA_no hrc]; exact hσ) hX2 hc2 hs2 (by omega) _ _ _ (lv_sub hl [3, 4, 5, 6, 1, 0] rfl) hw
        · skip
          refine lv_iload hx hb d_X_receive_37 (lv_at hl 0 rfl) ?_
          refine lv_iconst (v := nI 4) hx hb d_X_receive_39 rfl ?_
          refine r_ishrN hx hb (k := 4) (by omega) (by omega) d_X_receive_40 ?_
          refine lv_aload_n hx hb d_X_receive_41 rfl (lv_at hl 1 rfl) ?_
          refine g_X_15 hx hb hts hown hK hw 0 rfl rfl d_X_receive_42 ?_
          refine lv_iload_n hx hb d_X_receive_45 rfl (lv_at hl 3 rfl) ?_
          refine r_aald hx hb hK hw 17 rfl (by omega) (by omega) hr0 d_X_receive_46 ?_
          refine g_X_135 hx hb hts hown hK hw (21 + 3 * ru) (tg rfl hr1) rfl d_X_receive_47 ?_
          refine r_eq (show evI (rs.getD ru rD).2.1 = nI ev from by rw [hev]; rfl) ?_
          refine r_icmp_ne (tgt := 76) hx hb (by omega) (by omega) d_X_receive_50 (by decide) (fun c_50 => ?_) (fun c_50 => ?_)
          · skip
            have hrc : ¬ recvC w nd ev k := fun z => c_50 z.2.1
            refine lv_iload hx hb d_X_receive_76 (lv_at hl 0 rfl) ?_
            refine lv_istore (lv' := [(4, .int (nI (w.2.getD k 0))), (6, .int (nI (w.2.getD k 0))), (0, .ref (ad 0)), (1, .int (nI fr)), (2, .int (nI ru)), (3, .int (nI nd)), (5, .int (nI k))]) hx hb d_X_receive_78 hl (by decide) rfl (fun ls hl => ?_)
            refine r_iincN (n := 1) (lv' := [(5, .int (nI (k + 1))), (4, .int (nI (w.2.getD k 0))), (6, .int (nI (w.2.getD k 0))), (0, .ref (ad 0)), (1, .int (nI fr)), (2, .int (nI ru)), (3, .int (nI nd))]) hx hb d_X_receive_80 hl (k := 6) rfl (by decide) rfl (fun ls hl => ?_)
            refine lv_goto (tgt := 6) hx hb d_X_receive_83 (by decide) ?_
            refine W.widen (k := 7 * (jx j E2.length - j)) (n := 1280 * 2 ^ jx j E2.length - 1280 * 2 ^ j) (by omega) (by omega) ?_
            exact ih_6 (k + 1) (nI (w.2.getD k 0)) E2 cnt2 md2 ag2 ov2 qa2 fm2 fs2 js2 zv2 (by omega) (by rw [if_neg (by omega)]; rfl) (by rw [recvA_no hrc]; exact hσ) hX2 hc2 hs2 (by omega) _ _ _ (lv_sub hl [3, 4, 5, 6, 1, 0] rfl) hw
          · skip
            refine lv_iload hx hb d_X_receive_53 (lv_at hl 0 rfl) ?_
            refine lv_iconst (v := nI 3) hx hb d_X_receive_55 rfl ?_
            refine r_iandN hx hb d_X_receive_56 ?_
            refine r_eq (show nI ((w.2.getD k 0) &&& 3) = nI (w.2.getD k 0 % 4) from congrArg nI (and3 _)) ?_
            refine lv_iload_n hx hb d_X_receive_57 rfl (lv_at hl 4 rfl) ?_
            refine r_icmp_ne (tgt := 76) hx hb (by omega) (by omega) d_X_receive_58 (by decide) (fun c_58 => ?_) (fun c_58 => ?_)
            · skip
              have hrc : ¬ recvC w nd ev k := fun z => c_58 z.2.2
              refine lv_iload hx hb d_X_receive_76 (lv_at hl 0 rfl) ?_
              refine lv_istore (lv' := [(4, .int (nI (w.2.getD k 0))), (6, .int (nI (w.2.getD k 0))), (0, .ref (ad 0)), (1, .int (nI fr)), (2, .int (nI ru)), (3, .int (nI nd)), (5, .int (nI k))]) hx hb d_X_receive_78 hl (by decide) rfl (fun ls hl => ?_)
              refine r_iincN (n := 1) (lv' := [(5, .int (nI (k + 1))), (4, .int (nI (w.2.getD k 0))), (6, .int (nI (w.2.getD k 0))), (0, .ref (ad 0)), (1, .int (nI fr)), (2, .int (nI ru)), (3, .int (nI nd))]) hx hb d_X_receive_80 hl (k := 6) rfl (by decide) rfl (fun ls hl => ?_)
              refine lv_goto (tgt := 6) hx hb d_X_receive_83 (by decide) ?_
              refine W.widen (k := 7 * (jx j E2.length - j)) (n := 1280 * 2 ^ jx j E2.length - 1280 * 2 ^ j) (by omega) (by omega) ?_
              exact ih_6 (k + 1) (nI (w.2.getD k 0)) E2 cnt2 md2 ag2 ov2 qa2 fm2 fs2 js2 zv2 (by omega) (by rw [if_neg (by omega)]; rfl) (by rw [recvA_no hrc]; exact hσ) hX2 hc2 hs2 (by omega) _ _ _ (lv_sub hl [3, 4, 5, 6, 1, 0] rfl) hw
            · skip
              refine lv_aload_n hx hb d_X_receive_61 rfl (lv_at hl 1 rfl) ?_
              refine lv_iload_n hx hb d_X_receive_62 rfl (lv_at hl 2 rfl) ?_
              refine lv_iload_n hx hb d_X_receive_63 rfl (lv_at hl 3 rfl) ?_
              refine lv_iload_n hx hb d_X_receive_64 rfl (lv_at hl 4 rfl) ?_
              refine lv_iload hx hb d_X_receive_65 (lv_at hl 6 rfl) ?_
              refine lv_iload hx hb d_X_receive_67 (lv_at hl 0 rfl) ?_
              refine lv_iconst (v := nI 2) hx hb d_X_receive_69 rfl ?_
              refine r_ishrN hx hb (k := 2) (by omega) (by omega) d_X_receive_70 ?_
              refine lv_iconst (v := nI 3) hx hb d_X_receive_71 rfl ?_
              refine r_iandN hx hb d_X_receive_72 ?_
              refine r_eq (show nI (((w.2.getD k 0) / 2 ^ 2) &&& 3) = nI (w.2.getD k 0 / 4 % 4) from congrArg nI (and3 _)) ?_
              have hrc : recvC w nd ev k := ⟨recv_ln hla c_34, c_50, c_58⟩
              obtain ⟨⟨E3, cnt3, md3, ag3, ov3⟩, hst3⟩ : ∃ z : E5, stepA ps B n room w fr ru nd (rs.getD ru rD) (some (w.2.getD k 0)) (E2, cnt2, md2, ag2, ov2) = z := ⟨_, rfl⟩
              have hL3 := recv_len (ps := ps) (B := B) (n := n) (room := room) (w := w) (fr := fr) (ru := ru) (nd := nd) (ev := ev) (R := (rs.getD ru rD)) (σ := (E, cnt, md, ag, ov)) (k + 1) (w.2.length - (k + 1))
              rw [recvA_yes hrc, hσ, hst3, show k + 1 + (w.2.length - (k + 1)) = w.2.length by omega, hst] at hL3
              dsimp only at hL3
              have hL2 := step_len (ps := ps) (B := B) (n := n) (room := room) (w := w) (fr := fr) (ru := ru) (nd := nd) (R := (rs.getD ru rD)) (oc := some (w.2.getD k 0)) (σ := (E2, cnt2, md2, ag2, ov2))
              rw [hst3] at hL2
              dsimp only at hL2
              have hJ := jx_room (j := j) hL2 hL3
              have hJp : 2 ^ jx (jx j E2.length) E3.length = 2 ^ jx j E3.length := by rw [hJ.1]
              refine xVA_v (rest := []) (As := [.int (nI fr), .int (nI ru), .int (nI nd), .int (nI k), .int (nI (w.2.getD k 0 / 4 % 4))]) hx hb hml hown hts hK hA hw k_X_223 (c_X_step zl G ad qa2 fm2 fs2 js2 zv2 fb fn fh gh rr rp n room Sx Kx gn (jx j E2.length) ps B rs E2 E3 cnt2 md2 ag2 ov2 cnt3 md3 ag3 ov3 fr ru nd w (some (w.2.getD k 0)) (nI k) (nI (w.2.getD k 0 / 4 % 4)) hcf hX2 hS2.1 hS2.2.1 hV hfh hgh hrp hru (by omega) hc2 hnd (Or.inr ⟨k, c_15, rfl, rfl, recv_first hV.2.2.2.2.2 c_15 hrc.1⟩) rfl hst3) 0 rfl rfl rfl rfl hl.1 (Nat.le_of_ble_eq_true rfl) ⟨(by omega), (by omega)⟩ ⟨(by omega), (by omega)⟩ d_X_receive_73 (fun _ u9 H locs hp hw1 => ?_)
              obtain ⟨qa3, fm3, fs3, js3, zv3⟩ := u9
              obtain ⟨hX3, hc3, ho3⟩ := hp
              dsimp only at hX3 hc3 ho3
              rw [hJ.1] at hX3
              replace hw : WW G A zs ([oX (ad 0) [.int (nI n), .int (nI room), .int (nI Sx), .int (nI Kx), .ref (ad 17), .int (nI rs.length), .ref (ad 1), .ref (ad 2), .int (nI ps.length), .ref (qa3 1), .ref (qa3 2), .ref (qa3 3), .ref (qa3 4), .ref (qa3 5), .ref (qa3 6), .int (nI E3.length), .int (nI gn), .ref (qa3 7), .int (boF ov3 E3.length), .int (fuF ov3), .int (nI md3), .int (nI ag3), .ref (ad 18), .ref (ad 10), .ref (ad 13), .ref (ad 16), zv3 2], aZ G (ad 1) 64 fb, aI G (ad 2) 96 fn, aJ G (qa3 1) (64 * 2 ^ (jx j E3.length)) fm3, aI G (qa3 2) (64 * 2 ^ (jx j E3.length)) (fs3 2), aI G (qa3 3) (64 * 2 ^ (jx j E3.length)) (fs3 3), aI G (qa3 4) (64 * 2 ^ (jx j E3.length)) (fs3 4), aI G (qa3 5) (64 * 2 ^ (jx j E3.length)) (fs3 5), aI G (qa3 6) (64 * 2 ^ (jx j E3.length)) (fs3 6), aI G (qa3 7) (2 ^ (8 + (jx j E3.length))) (fs3 7), oW (ad 10) [.ref (ad 11), .ref (ad 12), zv3 0], aI G (ad 11) 4 (js3 1), aI G (ad 12) 8 (js3 2), oW (ad 13) [.ref (ad 14), .ref (ad 15), zv3 1], aI G (ad 14) 4 (js3 3), aI G (ad 15) 8 (js3 4), aI G (ad 16) 4 (js3 0), aR G (ad 17) 40 rr, oW (ad 18) [.ref (ad 19), .ref (ad 20), .int (nI w.2.length)], aI G (ad 19) 4 fh, aI G (ad 20) 8 gh] ++ rp) H locs := by rw [← hJ.1]; exact hw1
              refine lv_iload hx hb d_X_receive_76 (lv_at hl 0 rfl) ?_
              refine lv_istore (lv' := [(4, .int (nI (w.2.getD k 0))), (6, .int (nI (w.2.getD k 0))), (0, .ref (ad 0)), (1, .int (nI fr)), (2, .int (nI ru)), (3, .int (nI nd)), (5, .int (nI k))]) hx hb d_X_receive_78 hl (by decide) rfl (fun ls hl => ?_)
              refine r_iincN (n := 1) (lv' := [(5, .int (nI (k + 1))), (4, .int (nI (w.2.getD k 0))), (6, .int (nI (w.2.getD k 0))), (0, .ref (ad 0)), (1, .int (nI fr)), (2, .int (nI ru)), (3, .int (nI nd))]) hx hb d_X_receive_80 hl (k := 6) rfl (by decide) rfl (fun ls hl => ?_)
              refine lv_goto (tgt := 6) hx hb d_X_receive_83 (by decide) ?_
              refine W.widen (k := 7 * (jx j E3.length - j)) (n := 1280 * 2 ^ jx j E3.length - 1280 * 2 ^ j) (by omega) (by omega) ?_
              exact ih_6 (k + 1) (nI (w.2.getD k 0)) E3 cnt3 md3 ag3 ov3 qa3 fm3 fs3 js3 zv3 (by omega) (by rw [if_neg (by omega)]; rfl) (by rw [recvA_yes hrc, hσ]; exact hst3) hX3 hc3 (fun i hi hne => by rw [ho3 i (by omega) hne]; exact hs2 i hi hne) (by omega) _ _ _ (lv_sub hl [3, 4, 5, 6, 1, 0] rfl) hw
  rw [← hjj] at hw
  refine W.widen (k := 7 * (jx j E.length - j)) (n := 1280 * 2 ^ jx j E.length - 1280 * 2 ^ j) (by omega) (by omega) ?_
  exact Lp6 _ 0 (-1) E cnt md ag ov qa fm fs js zv (by omega) rfl rfl (by rw [hjj]; exact hX) hcnt (fun _ _ _ => rfl) (Nat.lt_succ_self _) _ _ _ (lv_sub hl [2, 3, 4, 5, 1, 0] rfl) hw
