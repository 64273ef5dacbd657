set_option maxHeartbeats 4000000 in
set_option maxRecDepth 100000 in
theorem c_M_allSteps (zl : Launch) (G : GG) (am : Nat → Nat) (fa : Nat → Nat → Int32) (zv : Nat → Value) (th bw : Int32) (n room Sx Kx : Nat) (ps pm : List (List Nat)) (B : Nat → Bool) (rs : List Rl) (E E1 : List Ent) (S : List Nat) (c md ag c1 md1 ag1 ov1 wi nd ri : Nat) (w : Wh) (hMC : MC n ps pm B fa) (hE : EOK n room E) (hSE : S.length ≤ E.length) (hMR : MR E S fa) (hrl : MRl rs fa) (hV : Vl n w) (hwi : wi < E.length) (hwE : (E.getD wi eD).1 = w) (hri : ri < rs.length) (hnd : nd < n) (hR1 : (rs.getD ri rD).1 = dg w nd) (hst : ruleA ps B n room w wi ri nd (rs.getD ri rD) (E, c, md, ag, 0) = (E1, c1, md1, ag1, ov1)) : Ctr (S := (Nat → Nat → Int32) × Int32 × (Nat → Value)) vI zl y_M_allSteps b_M_allSteps 8 (Option.some Jvm.ClassFile.FieldType.int) 4 0 0 G [.ref (am 0), .int (nI wi), .int (nI nd), .int (nI ri)] ([oM (am 0) [.int th, .int (nI n), .int (nI room), .int (nI Sx), .int (nI Kx), .int (nI rs.length), .ref (am 1), .ref (am 2), .ref (am 3), .ref (am 4), .ref (am 5), .ref (am 6), .ref (am 7), .ref (am 8), .int (nI pm.length), .int (nI E.length), .int (nI S.length), .int (nI md), .int (nI ag), .int (nI (deadN S S.length)), .int (nI 0), .int bw, .ref (am 9), .ref (am 10), .ref (am 11), .ref (am 12), .ref (am 13), .ref (am 14), .ref (am 15), .ref (am 16), .ref (am 17), .ref (am 18), zv 0, zv 1], aI G (am 1) 40 (fa 1), aI G (am 2) 40 (fa 2), aI G (am 3) 40 (fa 3), aI G (am 4) 40 (fa 4), aI G (am 5) 160 (fa 5), aI G (am 6) 160 (fa 6), aZ G (am 7) 64 (fa 7), aI G (am 8) 96 (fa 8), aI G (am 9) 98304 (fa 9), aI G (am 10) 8192 (fa 10), aI G (am 11) 8192 (fa 11), aI G (am 12) 8192 (fa 12), aI G (am 13) 8192 (fa 13), aI G (am 14) 8192 (fa 14), aI G (am 15) 8192 (fa 15), aI G (am 16) 12 (fa 16), aI G (am 17) 12 (fa 17), aI G (am 18) 12 (fa 18)]) (fun r u => r = asR c c1 ov1 ∧ (c ≤ c1 ∧ c1 ≤ c + 7) ∧ MR E1 S u.1 ∧ (∀ i, i < 9 → u.1 i = fa i) ∧ (ov1 = 1 → u.2.1 = nI (E1.length - 1))) (fun u => [oM (am 0) [.int th, .int (nI n), .int (nI room), .int (nI Sx), .int (nI Kx), .int (nI rs.length), .ref (am 1), .ref (am 2), .ref (am 3), .ref (am 4), .ref (am 5), .ref (am 6), .ref (am 7), .ref (am 8), .int (nI pm.length), .int (nI E1.length), .int (nI S.length), .int (nI md1), .int (nI ag1), .int (nI (deadN S S.length)), .int (anF ov1), .int u.2.1, .ref (am 9), .ref (am 10), .ref (am 11), .ref (am 12), .ref (am 13), .ref (am 14), .ref (am 15), .ref (am 16), .ref (am 17), .ref (am 18), u.2.2 0, u.2.2 1], aI G (am 1) 40 (u.1 1), aI G (am 2) 40 (u.1 2), aI G (am 3) 40 (u.1 3), aI G (am 4) 40 (u.1 4), aI G (am 5) 160 (u.1 5), aI G (am 6) 160 (u.1 6), aZ G (am 7) 64 (u.1 7), aI G (am 8) 96 (u.1 8), aI G (am 9) 98304 (u.1 9), aI G (am 10) 8192 (u.1 10), aI G (am 11) 8192 (u.1 11), aI G (am 12) 8192 (u.1 12), aI G (am 13) 8192 (u.1 13), aI G (am 14) 8192 (u.1 14), aI G (am 15) 8192 (u.1 15), aI G (am 16) 12 (u.1 16), aI G (am 17) 12 (u.1 17), aI G (am 18) 12 (u.1 18)]) := by
  refine Ctr.start (by decide) (Nat.le_of_ble_eq_true rfl) ?_
  intro zp ze zs zm below meth zc A ls C0 hin hK hA hl hw
  obtain ⟨hx, hb, hr, hlk, hml, hown, hts⟩ := C0
  obtain ⟨R, hRR⟩ : ∃ R : Room, R = rmL 4 0 0 := ⟨_, rfl⟩
  have hRf : R.frames = 4 := by rw [hRR]
  have hRl : R.locals = 64 * 4 := by rw [hRR]
  have hRc : R.cells = 0 := by rw [hRR]
  have hRs : R.slots = 0 := by rw [hRR]
  rw [← hRR]; clear hRR
  generalize hQ : MQ below _ _ zs _ _ A = Q
  generalize hAr : List.toArray _ = args at hts hQ ⊢
  replace hl : lv_has ls 8 [(0, .ref (am 0)), (1, .int (nI wi)), (2, .int (nI nd)), (3, .int (nI ri))] := hl
  obtain ⟨H, eH⟩ : ∃ H : Heap, H = zs.heap := ⟨_, rfl⟩
  obtain ⟨locs, eL⟩ : ∃ l0 : List Loc, l0 = [] := ⟨_, rfl⟩
  rw [← eH, ← eL] at hw ⊢; clear eH eL
  obtain ⟨hn4, hs, hB, h00, hPm, h00m, h24, hPmm, hnum, hfe⟩ := id hMC
  have hE8 := hE.2.2
  have hrll := hrl.1
  have hro := rs_at hrl.2.1 hri
  have hrn := hrl.2.2.1 _ (rs_mem hri)
  have hrl1 := hrl.2.2.2 ri hri
  have hS0 : SOK n room E (E, c, md, ag, 0) := ⟨hE, Nat.zero_le _, Nat.le_refl _, fun _ _ => rfl⟩
  have hrw1 : Row (fa 9) (12 * wi) w := by have hz := (hMR.1 wi (by omega)).1; rw [hwE] at hz; exact hz
  have hlw := hV.2.2.2.1
  refine lv_aload_n hx hb d_M_allSteps_0 rfl (lv_at hl 0 rfl) ?_
  refine g_M_17 hx hb hts hown hK hw 0 rfl rfl d_M_allSteps_1 ?_
  refine lv_iload_n hx hb d_M_allSteps_4 rfl (lv_at hl 3 rfl) ?_
  refine r_iald hx hb hK hw 2 rfl (by omega) (by omega) d_M_allSteps_5 ?_
  refine r_eq (show (fa 2) ri = evI (rs.getD ri rD).2.1 from hrl1.2.1) ?_
  refine lv_iconst (v := -1) hx hb d_M_allSteps_6 (by decide) ?_
  refine lv_icmp_ne (tgt := 38) hx hb d_M_allSteps_7 (by decide) (fun c_7 => ?_) (fun c_7 => ?_)
  · skip
    obtain ⟨ev, hev⟩ := evI_s c_7
    have hev6 := hro.2.1 ev hev
    have hst2 : recvA ps B n room w wi ri nd ev (rs.getD ri rD) w.2.length (E, c, md, ag, 0) = (E1, c1, md1, ag1, ov1) := by rw [ruleA, if_pos hR1, hev] at hst; exact hst
    refine lv_iconst (v := nI 0) hx hb d_M_allSteps_38 rfl ?_
    refine lv_istore (lv' := [(4, .int (nI 0)), (0, .ref (am 0)), (1, .int (nI wi)), (2, .int (nI nd)), (3, .int (nI ri))]) hx hb d_M_allSteps_39 hl (by decide) rfl (fun ls hl => ?_)
    refine lv_iconst (v := nI 0) hx hb d_M_allSteps_41 rfl ?_
    refine lv_istore (lv' := [(5, .int (nI 0)), (4, .int (nI 0)), (0, .ref (am 0)), (1, .int (nI wi)), (2, .int (nI nd)), (3, .int (nI ri))]) hx hb d_M_allSteps_42 hl (by decide) rfl (fun ls hl => ?_)
    have Lp44 : ∀ N_44 : Nat, ∀ (k : Nat) (m : Nat) (E2 : List Ent) (md2 : Nat) (ag2 : Nat) (fa2 : Nat → Nat → Int32) (bw2 : Int32) (zv2 : Nat → Value), (k ≤ w.2.length) → (recvA ps B n room w wi ri nd ev (rs.getD ri rD) k (E, c, md, ag, 0) = (E2, c + m, md2, ag2, 0)) → (MR E2 S fa2) → (∀ i, i < 9 → fa2 i = fa i) → (m ≤ k) → w.2.length - k < N_44 → ∀ (H : Heap) (locs : List Loc) (ls : Array Slot), lv_has ls 8 [(0, .ref (am 0)), (1, .int (nI wi)), (2, .int (nI nd)), (3, .int (nI ri)), (4, .int (nI m)), (5, .int (nI k))] → WW G A zs ([oM (am 0) [.int th, .int (nI n), .int (nI room), .int (nI Sx), .int (nI Kx), .int (nI rs.length), .ref (am 1), .ref (am 2), .ref (am 3), .ref (am 4), .ref (am 5), .ref (am 6), .ref (am 7), .ref (am 8), .int (nI pm.length), .int (nI E2.length), .int (nI S.length), .int (nI md2), .int (nI ag2), .int (nI (deadN S S.length)), .int (nI 0), .int bw2, .ref (am 9), .ref (am 10), .ref (am 11), .ref (am 12), .ref (am 13), .ref (am 14), .ref (am 15), .ref (am 16), .ref (am 17), .ref (am 18), zv2 0, zv2 1], aI G (am 1) 40 (fa2 1), aI G (am 2) 40 (fa2 2), aI G (am 3) 40 (fa2 3), aI G (am 4) 40 (fa2 4), aI G (am 5) 160 (fa2 5), aI G (am 6) 160 (fa2 6), aZ G (am 7) 64 (fa2 7), aI G (am 8) 96 (fa2 8), aI G (am 9) 98304 (fa2 9), aI G (am 10) 8192 (fa2 10), aI G (am 11) 8192 (fa2 11), aI G (am 12) 8192 (fa2 12), aI G (am 13) 8192 (fa2 13), aI G (am 14) 8192 (fa2 14), aI G (am 15) 8192 (fa2 15), aI G (am 16) 12 (fa2 16), aI G (am 17) 12 (fa2 17), aI G (am 18) 12 (fa2 18)]) H locs → W zp zl ze R zs zm args below meth zc H locs 0 0 Q (F0 zm 44 ls []) := by
      intro N_44
      induction N_44 with
      | zero => intros; omega
      | succ N_44 ih_44 =>
        intro k m E2 md2 ag2 fa2 bw2 zv2 hk hσ hMR2 hk2 hm hN_44 H locs ls hl hw
        have hS2 := SOK.recv (B := B) (fr := wi) (ru := ri) (ev := ev) hS0 h00 hPm hV hn4 hnd hro k
        rw [hσ] at hS2
        dsimp only [SOK] at hS2
        have hL0 := hS2.2.2.1
        have hE82 := hS2.1.2.2
        have hrl2 := (hrl.kp hk2).2.2.2 ri hri
        have hMC2 := hMC.kp hk2
        have hrw2 : Row (fa2 9) (12 * wi) w := by have hz := (hMR2.1 wi (by omega)).1; rw [hS2.2.2.2 wi hwi, hwE] at hz; exact hz
        refine lv_iload hx hb d_M_allSteps_44 (lv_at hl 5 rfl) ?_
        refine lv_aload_n hx hb d_M_allSteps_46 rfl (lv_at hl 0 rfl) ?_
        refine g_M_40 hx hb hts hown hK hw 0 rfl rfl d_M_allSteps_47 ?_
        refine lv_bipush (v := nI 12) hx hb d_M_allSteps_50 (by decide) ?_
        refine lv_iload_n hx hb d_M_allSteps_52 rfl (lv_at hl 1 rfl) ?_
        refine r_imulN hx hb d_M_allSteps_53 ?_
        refine lv_iconst (v := nI 4) hx hb d_M_allSteps_54 rfl ?_
        refine r_iaddN hx hb d_M_allSteps_55 ?_
        refine r_iald hx hb hK hw 9 rfl (by omega) (by omega) d_M_allSteps_56 ?_
        refine r_eq (show (fa2 9) ((12 * wi) + 4) = nI w.2.length from hrw2.n) ?_
        refine r_icmp_ge (tgt := 169) hx hb (by omega) (by omega) d_M_allSteps_57 (by decide) (fun c_57 => ?_) (fun c_57 => ?_)
        · skip
          have hk9 : k = w.2.length := by omega
          rw [hk9] at hσ
          obtain ⟨rfl, rfl, rfl, rfl, rfl⟩ := five_eq (hst2.symm.trans hσ)
          refine lv_iload hx hb d_M_allSteps_169 (lv_at hl 4 rfl) ?_
          exact r_ret hQ (r_iret (fa2, bw2, zv2) hx hb hr hlk hw (⟨by rw [asR, if_pos rfl, Nat.add_sub_cancel_left], by omega, hMR2, hk2, fun z => absurd z (by decide)⟩) (by omega) (by omega) d_M_allSteps_171)
        · skip
          have hcb := (hV.at c_57).1
          have hcb1 := hV.cd (k - 1)
          refine lv_aload_n hx hb d_M_allSteps_60 rfl (lv_at hl 0 rfl) ?_
          refine g_M_40 hx hb hts hown hK hw 0 rfl rfl d_M_allSteps_61 ?_
          refine lv_bipush (v := nI 12) hx hb d_M_allSteps_64 (by decide) ?_
          refine lv_iload_n hx hb d_M_allSteps_66 rfl (lv_at hl 1 rfl) ?_
          refine r_imulN hx hb d_M_allSteps_67 ?_
          refine lv_iconst (v := nI 5) hx hb d_M_allSteps_68 rfl ?_
          refine r_iaddN hx hb d_M_allSteps_69 ?_
          refine lv_iload hx hb d_M_allSteps_70 (lv_at hl 5 rfl) ?_
          refine r_iaddN hx hb d_M_allSteps_72 ?_
          refine r_iald hx hb hK hw 9 rfl (by omega) (by omega) d_M_allSteps_73 ?_
          refine r_eq (show (fa2 9) (((12 * wi) + 5) + k) = nI (w.2.getD k 0) from hrw2.cd c_57) ?_
          refine lv_istore (lv' := [(6, .int (nI (w.2.getD k 0))), (0, .ref (am 0)), (1, .int (nI wi)), (2, .int (nI nd)), (3, .int (nI ri)), (4, .int (nI m)), (5, .int (nI k))]) hx hb d_M_allSteps_74 hl (by decide) rfl (fun ls hl => ?_)
          refine lv_iload hx hb d_M_allSteps_76 (lv_at hl 6 rfl) ?_
          have Lp105 : ∀ (v : Nat), ((v = 0 ∧ (k = 0 ∨ w.2.getD (k - 1) 0 ≠ w.2.getD k 0)) ∨ (v = 1 ∧ ¬ (k = 0 ∨ w.2.getD (k - 1) 0 ≠ w.2.getD k 0))) → ∀ (H : Heap) (locs : List Loc) (ls : Array Slot), lv_has ls 8 [(0, .ref (am 0)), (1, .int (nI wi)), (2, .int (nI nd)), (3, .int (nI ri)), (4, .int (nI m)), (5, .int (nI k)), (6, .int (nI (w.2.getD k 0)))] → WW G A zs ([oM (am 0) [.int th, .int (nI n), .int (nI room), .int (nI Sx), .int (nI Kx), .int (nI rs.length), .ref (am 1), .ref (am 2), .ref (am 3), .ref (am 4), .ref (am 5), .ref (am 6), .ref (am 7), .ref (am 8), .int (nI pm.length), .int (nI E2.length), .int (nI S.length), .int (nI md2), .int (nI ag2), .int (nI (deadN S S.length)), .int (nI 0), .int bw2, .ref (am 9), .ref (am 10), .ref (am 11), .ref (am 12), .ref (am 13), .ref (am 14), .ref (am 15), .ref (am 16), .ref (am 17), .ref (am 18), zv2 0, zv2 1], aI G (am 1) 40 (fa2 1), aI G (am 2) 40 (fa2 2), aI G (am 3) 40 (fa2 3), aI G (am 4) 40 (fa2 4), aI G (am 5) 160 (fa2 5), aI G (am 6) 160 (fa2 6), aZ G (am 7) 64 (fa2 7), aI G (am 8) 96 (fa2 8), aI G (am 9) 98304 (fa2 9), aI G (am 10) 8192 (fa2 10), aI G (am 11) 8192 (fa2 11), aI G (am 12) 8192 (fa2 12), aI G (am 13) 8192 (fa2 13), aI G (am 14) 8192 (fa2 14), aI G (am 15) 8192 (fa2 15), aI G (am 16) 12 (fa2 16), aI G (am 17) 12 (fa2 17), aI G (am 18) 12 (fa2 18)]) H locs → W zp zl ze R zs zm args below meth zc H locs 0 0 Q (F0 zm 105 ls [.int (nI v)]) := by
            intro v hv H locs ls hl hw
            refine lv_istore (lv' := [(7, .int (nI v)), (0, .ref (am 0)), (1, .int (nI wi)), (2, .int (nI nd)), (3, .int (nI ri)), (4, .int (nI m)), (5, .int (nI k)), (6, .int (nI (w.2.getD k 0)))]) hx hb d_M_allSteps_105 hl (by decide) rfl (fun ls hl => ?_)
            refine lv_iload hx hb d_M_allSteps_107 (lv_at hl 0 rfl) ?_
            refine r_if_ne (tgt := 163) hx hb (by omega) d_M_allSteps_109 (by decide) (fun c_109 => ?_) (fun c_109 => ?_)
            · skip
              have hrc : ¬ recvC w nd ev k := fun z => by rcases hv with h | h; omega; exact h.2 z.1
              refine r_iincN (n := 1) (lv' := [(5, .int (nI (k + 1))), (7, .int (nI v)), (0, .ref (am 0)), (1, .int (nI wi)), (2, .int (nI nd)), (3, .int (nI ri)), (4, .int (nI m)), (6, .int (nI (w.2.getD k 0)))]) hx hb d_M_allSteps_163 hl (k := 6) rfl (by decide) rfl (fun ls hl => ?_)
              refine lv_goto (tgt := 44) hx hb d_M_allSteps_166 (by decide) ?_
              exact ih_44 (k + 1) m E2 md2 ag2 fa2 bw2 zv2 (by omega) (by rw [recvA_no hrc]; exact hσ) hMR2 hk2 (by omega) (by omega) _ _ _ (lv_sub hl [2, 3, 4, 5, 6, 0] rfl) hw
            · skip
              have hfst := hv.resolve_right (fun z => by omega)
              refine lv_iload hx hb d_M_allSteps_112 (lv_at hl 7 rfl) ?_
              refine lv_bipush (v := nI 16) hx hb d_M_allSteps_114 (by decide) ?_
              refine r_idivN hx hb (by omega) (by omega) (by omega) d_M_allSteps_116 ?_
              refine lv_aload_n hx hb d_M_allSteps_117 rfl (lv_at hl 1 rfl) ?_
              refine g_M_17 hx hb hts hown hK hw 0 rfl rfl d_M_allSteps_118 ?_
              refine lv_iload_n hx hb d_M_allSteps_121 rfl (lv_at hl 4 rfl) ?_
              refine r_iald hx hb hK hw 2 rfl (by omega) (by omega) d_M_allSteps_122 ?_
              refine r_eq (show (fa2 2) ri = nI ev from by rw [hrl2.2.1, hev]; rfl) ?_
              refine r_icmp_ne (tgt := 163) hx hb (by omega) (by omega) d_M_allSteps_123 (by decide) (fun c_123 => ?_) (fun c_123 => ?_)
              · skip
                have hrc : ¬ recvC w nd ev k := fun z => c_123 z.2.1
                refine r_iincN (n := 1) (lv' := [(5, .int (nI (k + 1))), (7, .int (nI v)), (0, .ref (am 0)), (1, .int (nI wi)), (2, .int (nI nd)), (3, .int (nI ri)), (4, .int (nI m)), (6, .int (nI (w.2.getD k 0)))]) hx hb d_M_allSteps_163 hl (k := 6) rfl (by decide) rfl (fun ls hl => ?_)
                refine lv_goto (tgt := 44) hx hb d_M_allSteps_166 (by decide) ?_
                exact ih_44 (k + 1) m E2 md2 ag2 fa2 bw2 zv2 (by omega) (by rw [recvA_no hrc]; exact hσ) hMR2 hk2 (by omega) (by omega) _ _ _ (lv_sub hl [2, 3, 4, 5, 6, 0] rfl) hw
              · skip
                refine lv_iload hx hb d_M_allSteps_126 (lv_at hl 7 rfl) ?_
                refine lv_iconst (v := nI 4) hx hb d_M_allSteps_128 rfl ?_
                refine r_iremN hx hb (by omega) (by omega) (by omega) d_M_allSteps_129 ?_
                refine lv_iload_n hx hb d_M_allSteps_130 rfl (lv_at hl 3 rfl) ?_
                refine r_icmp_ne (tgt := 163) hx hb (by omega) (by omega) d_M_allSteps_131 (by decide) (fun c_131 => ?_) (fun c_131 => ?_)
                · skip
                  have hrc : ¬ recvC w nd ev k := fun z => c_131 z.2.2
                  refine r_iincN (n := 1) (lv' := [(5, .int (nI (k + 1))), (7, .int (nI v)), (0, .ref (am 0)), (1, .int (nI wi)), (2, .int (nI nd)), (3, .int (nI ri)), (4, .int (nI m)), (6, .int (nI (w.2.getD k 0)))]) hx hb d_M_allSteps_163 hl (k := 6) rfl (by decide) rfl (fun ls hl => ?_)
                  refine lv_goto (tgt := 44) hx hb d_M_allSteps_166 (by decide) ?_
                  exact ih_44 (k + 1) m E2 md2 ag2 fa2 bw2 zv2 (by omega) (by rw [recvA_no hrc]; exact hσ) hMR2 hk2 (by omega) (by omega) _ _ _ (lv_sub hl [2, 3, 4, 5, 6, 0] rfl) hw
                · skip
                  have hrc : recvC w nd ev k := ⟨hfst.2, c_123, c_131⟩
                  refine lv_aload_n hx hb d_M_allSteps_134 rfl (lv_at hl 1 rfl) ?_
                  refine lv_iload_n hx hb d_M_allSteps_135 rfl (lv_at hl 2 rfl) ?_
                  refine lv_iload_n hx hb d_M_allSteps_136 rfl (lv_at hl 3 rfl) ?_
                  refine lv_iload_n hx hb d_M_allSteps_137 rfl (lv_at hl 4 rfl) ?_
                  refine lv_iload hx hb d_M_allSteps_138 (lv_at hl 7 rfl) ?_
                  rcases hmk : mkW n w nd (rs.getD ri rD).2.2.1 (rs.getD ri rD).2.2.2 (some (w.2.getD k 0)) with _ | w1
                  · skip
                    refine xV_i (rest := []) (As := [.int (nI wi), .int (nI nd), .int (nI ri), .int (nI (w.2.getD k 0))]) hx hb hml hown hts hK hA hw k_M_156 (c_M_make zl G (am 0) (am 3) (am 4) (am 5) (am 6) (am 9) (am 16) n wi nd ri (rs.getD ri rD).2.2.1 (.int th) (.int (nI room)) (.int (nI Sx)) (.int (nI Kx)) (.int (nI rs.length)) (.ref (am 1)) (.ref (am 2)) (.ref (am 7)) (.ref (am 8)) (.int (nI pm.length)) (.int (nI E2.length)) (.int (nI S.length)) (.int (nI md2)) (.int (nI ag2)) (.int (nI (deadN S S.length))) (.int (nI 0)) (.int bw2) (.ref (am 10)) (.ref (am 11)) (.ref (am 12)) (.ref (am 13)) (.ref (am 14)) (.ref (am 15)) (.ref (am 17)) (.ref (am 18)) (zv2 0) (zv2 1) (fa2 3) (fa2 4) (fa2 5) (fa2 6) (fa2 9) (fa2 16) w (rs.getD ri rD).2.2.2 (some (w.2.getD k 0)) (nI (w.2.getD k 0)) none hV hn4 hnd hro.2.2.1 (by omega) (by omega) hro.2.2.2.1 hro.2.2.2.2 hrl2.2.2.1 hrl2.2.2.2.1 hrl2.2.2.2.2 hrw2 rfl (fun d z => by cases z; exact getD_mem' c_57) (fun z => by cases z) hmk) ([0, 3, 4, 5, 6, 9, 16]) rfl rfl (fun _ => Nat.le_of_ble_eq_true rfl) 0 rfl rfl rfl rfl hl.1 (Nat.le_of_ble_eq_true rfl) ⟨(by omega), (by omega)⟩ ⟨(by omega), (by omega)⟩ d_M_allSteps_140 (fun r g3 H locs hp hw1 => ?_)
                    have hpr := hp.2 rfl
                    subst hpr
                    refine W.cs (cells' := 0) (slots' := 0) rfl rfl ?_
                    replace hw : WW G A zs ([oM (am 0) [.int th, .int (nI n), .int (nI room), .int (nI Sx), .int (nI Kx), .int (nI rs.length), .ref (am 1), .ref (am 2), .ref (am 3), .ref (am 4), .ref (am 5), .ref (am 6), .ref (am 7), .ref (am 8), .int (nI pm.length), .int (nI E2.length), .int (nI S.length), .int (nI md2), .int (nI ag2), .int (nI (deadN S S.length)), .int (nI 0), .int bw2, .ref (am 9), .ref (am 10), .ref (am 11), .ref (am 12), .ref (am 13), .ref (am 14), .ref (am 15), .ref (am 16), .ref (am 17), .ref (am 18), zv2 0, zv2 1], aI G (am 1) 40 (fa2 1), aI G (am 2) 40 (fa2 2), aI G (am 3) 40 (fa2 3), aI G (am 4) 40 (fa2 4), aI G (am 5) 160 (fa2 5), aI G (am 6) 160 (fa2 6), aZ G (am 7) 64 (fa2 7), aI G (am 8) 96 (fa2 8), aI G (am 9) 98304 (fa2 9), aI G (am 10) 8192 (fa2 10), aI G (am 11) 8192 (fa2 11), aI G (am 12) 8192 (fa2 12), aI G (am 13) 8192 (fa2 13), aI G (am 14) 8192 (fa2 14), aI G (am 15) 8192 (fa2 15), aI G (am 16) 12 g3, aI G (am 17) 12 (fa2 17), aI G (am 18) 12 (fa2 18)]) H locs := hw1
                    refine r_if_ne (tgt := 149) hx hb (by omega) d_M_allSteps_143 (by decide) (fun c_143 => ?_) (fun c_143 => ?_)
                    · skip
                      exact absurd c_143 (by decide)
                    · skip
                      refine lv_goto (tgt := 163) hx hb d_M_allSteps_146 (by decide) ?_
                      refine r_iincN (n := 1) (lv' := [(5, .int (nI (k + 1))), (7, .int (nI v)), (0, .ref (am 0)), (1, .int (nI wi)), (2, .int (nI nd)), (3, .int (nI ri)), (4, .int (nI m)), (6, .int (nI (w.2.getD k 0)))]) hx hb d_M_allSteps_163 hl (k := 6) rfl (by decide) rfl (fun ls hl => ?_)
                      refine lv_goto (tgt := 44) hx hb d_M_allSteps_166 (by decide) ?_
                      exact ih_44 (k + 1) m E2 md2 ag2 (va_up fa2 16 g3) bw2 zv2 (by omega) (by rw [recvA_yes hrc, hσ]; exact step_none hmk) hMR2 (kpt hk2 kp1) (by omega) (by omega) _ _ _ (lv_sub hl [2, 3, 4, 5, 6, 0] rfl) hw
                  · skip
                    refine xV_i (rest := []) (As := [.int (nI wi), .int (nI nd), .int (nI ri), .int (nI (w.2.getD k 0))]) hx hb hml hown hts hK hA hw k_M_156 (c_M_make zl G (am 0) (am 3) (am 4) (am 5) (am 6) (am 9) (am 16) n wi nd ri (rs.getD ri rD).2.2.1 (.int th) (.int (nI room)) (.int (nI Sx)) (.int (nI Kx)) (.int (nI rs.length)) (.ref (am 1)) (.ref (am 2)) (.ref (am 7)) (.ref (am 8)) (.int (nI pm.length)) (.int (nI E2.length)) (.int (nI S.length)) (.int (nI md2)) (.int (nI ag2)) (.int (nI (deadN S S.length))) (.int (nI 0)) (.int bw2) (.ref (am 10)) (.ref (am 11)) (.ref (am 12)) (.ref (am 13)) (.ref (am 14)) (.ref (am 15)) (.ref (am 17)) (.ref (am 18)) (zv2 0) (zv2 1) (fa2 3) (fa2 4) (fa2 5) (fa2 6) (fa2 9) (fa2 16) w (rs.getD ri rD).2.2.2 (some (w.2.getD k 0)) (nI (w.2.getD k 0)) (some w1) hV hn4 hnd hro.2.2.1 (by omega) (by omega) hro.2.2.2.1 hro.2.2.2.2 hrl2.2.2.1 hrl2.2.2.2.1 hrl2.2.2.2.2 hrw2 rfl (fun d z => by cases z; exact getD_mem' c_57) (fun z => by cases z) hmk) ([0, 3, 4, 5, 6, 9, 16]) rfl rfl (fun _ => Nat.le_of_ble_eq_true rfl) 0 rfl rfl rfl rfl hl.1 (Nat.le_of_ble_eq_true rfl) ⟨(by omega), (by omega)⟩ ⟨(by omega), (by omega)⟩ d_M_allSteps_140 (fun r g3 H locs hp hw1 => ?_)
                    obtain ⟨hpr, hrow⟩ := hp.1 w1 rfl
                    subst hpr
                    refine W.cs (cells' := 0) (slots' := 0) rfl rfl ?_
                    replace hw : WW G A zs ([oM (am 0) [.int th, .int (nI n), .int (nI room), .int (nI Sx), .int (nI Kx), .int (nI rs.length), .ref (am 1), .ref (am 2), .ref (am 3), .ref (am 4), .ref (am 5), .ref (am 6), .ref (am 7), .ref (am 8), .int (nI pm.length), .int (nI E2.length), .int (nI S.length), .int (nI md2), .int (nI ag2), .int (nI (deadN S S.length)), .int (nI 0), .int bw2, .ref (am 9), .ref (am 10), .ref (am 11), .ref (am 12), .ref (am 13), .ref (am 14), .ref (am 15), .ref (am 16), .ref (am 17), .ref (am 18), zv2 0, zv2 1], aI G (am 1) 40 (fa2 1), aI G (am 2) 40 (fa2 2), aI G (am 3) 40 (fa2 3), aI G (am 4) 40 (fa2 4), aI G (am 5) 160 (fa2 5), aI G (am 6) 160 (fa2 6), aZ G (am 7) 64 (fa2 7), aI G (am 8) 96 (fa2 8), aI G (am 9) 98304 (fa2 9), aI G (am 10) 8192 (fa2 10), aI G (am 11) 8192 (fa2 11), aI G (am 12) 8192 (fa2 12), aI G (am 13) 8192 (fa2 13), aI G (am 14) 8192 (fa2 14), aI G (am 15) 8192 (fa2 15), aI G (am 16) 12 g3, aI G (am 17) 12 (fa2 17), aI G (am 18) 12 (fa2 18)]) H locs := hw1
                    refine r_if_ne (tgt := 149) hx hb (by omega) d_M_allSteps_143 (by decide) (fun c_143 => ?_) (fun c_143 => ?_)
                    · skip
                      refine lv_aload_n hx hb d_M_allSteps_149 rfl (lv_at hl 1 rfl) ?_
                      refine lv_iload_n hx hb d_M_allSteps_150 rfl (lv_at hl 2 rfl) ?_
                      refine lv_iload_n hx hb d_M_allSteps_151 rfl (lv_at hl 4 rfl) ?_
                      rcases hcm : comeA ps B n room E2 ag2 w1 (nI wi) (nI ri) with ⟨E3, ag3, ov3⟩
                      refine xVA_i (rest := []) (As := [.int (nI wi), .int (nI ri)]) hx hb hml hown hts hK hA hw k_M_160 (c_M_step zl G am (va_up fa2 16 g3) zv2 th bw2 n room Sx Kx ps pm B rs E2 E3 S md2 ag2 ag3 ov3 wi ri w1 (hMC2.kp kp1) hS2.1 (by omega) hMR2 (mk_ok hV hn4 hnd hro.2.2.1 hro.2.2.2.1 hmk) hrow (by omega) hcm) 0 rfl rfl rfl rfl hl.1 (Nat.le_of_ble_eq_true rfl) ⟨(by omega), (by omega)⟩ ⟨(by omega), (by omega)⟩ d_M_allSteps_152 (fun r u5 H locs hp hw1 => ?_)
                      obtain ⟨fa5, bw5, zv5⟩ := u5
                      obtain ⟨hr5, hm5, hk5, hb5⟩ := hp
                      refine W.cs (cells' := 0) (slots' := 0) rfl rfl ?_
                      replace hw : WW G A zs ([oM (am 0) [.int th, .int (nI n), .int (nI room), .int (nI Sx), .int (nI Kx), .int (nI rs.length), .ref (am 1), .ref (am 2), .ref (am 3), .ref (am 4), .ref (am 5), .ref (am 6), .ref (am 7), .ref (am 8), .int (nI pm.length), .int (nI E3.length), .int (nI S.length), .int (nI (md2 + 1)), .int (nI ag3), .int (nI (deadN S S.length)), .int (anF ov3), .int bw5, .ref (am 9), .ref (am 10), .ref (am 11), .ref (am 12), .ref (am 13), .ref (am 14), .ref (am 15), .ref (am 16), .ref (am 17), .ref (am 18), zv5 0, zv5 1], aI G (am 1) 40 (fa5 1), aI G (am 2) 40 (fa5 2), aI G (am 3) 40 (fa5 3), aI G (am 4) 40 (fa5 4), aI G (am 5) 160 (fa5 5), aI G (am 6) 160 (fa5 6), aZ G (am 7) 64 (fa5 7), aI G (am 8) 96 (fa5 8), aI G (am 9) 98304 (fa5 9), aI G (am 10) 8192 (fa5 10), aI G (am 11) 8192 (fa5 11), aI G (am 12) 8192 (fa5 12), aI G (am 13) 8192 (fa5 13), aI G (am 14) 8192 (fa5 14), aI G (am 15) 8192 (fa5 15), aI G (am 16) 12 (fa5 16), aI G (am 17) 12 (fa5 17), aI G (am 18) 12 (fa5 18)]) H locs := hw1
                      refine lv_if_ne (tgt := 160) hx hb d_M_allSteps_155 (by decide) (fun c_155 => ?_) (fun c_155 => ?_)
                      · skip
                        obtain rfl : ov3 = 0 := stR_1 hr5 c_155
                        refine r_iincN (n := 1) (lv' := [(4, .int (nI (m + 1))), (7, .int (nI v)), (0, .ref (am 0)), (1, .int (nI wi)), (2, .int (nI nd)), (3, .int (nI ri)), (5, .int (nI k)), (6, .int (nI (w.2.getD k 0)))]) hx hb d_M_allSteps_160 hl (k := 5) rfl (by decide) rfl (fun ls hl => ?_)
                        refine r_iincN (n := 1) (lv' := [(5, .int (nI (k + 1))), (4, .int (nI (m + 1))), (7, .int (nI v)), (0, .ref (am 0)), (1, .int (nI wi)), (2, .int (nI nd)), (3, .int (nI ri)), (6, .int (nI (w.2.getD k 0)))]) hx hb d_M_allSteps_163 hl (k := 6) rfl (by decide) rfl (fun ls hl => ?_)
                        refine lv_goto (tgt := 44) hx hb d_M_allSteps_166 (by decide) ?_
-- KIND MISMATCH field ('N', '0') ('I', 'anF ov3')
                        exact ih_44 (k + 1) (m + 1) E3 (md2 + 1) ag3 fa5 bw5 zv5 (by omega) (by rw [recvA_yes hrc, hσ]; exact step_same hmk hcm) hm5 (kpt (kpt hk2 kp1) hk5) (by omega) (by omega) _ _ _ (lv_sub hl [3, 4, 5, 6, 1, 0] rfl) hw
                      · skip
                        have hov3 := stR_0 hr5 c_155
                        have hσ3 : recvA ps B n room w wi ri nd ev (rs.getD ri rD) (k + 1) (E, c, md, ag, 0) = (E3, c + m + 1, md2 + 1, ag3, ov3) := by rw [recvA_yes hrc, hσ]; exact step_same hmk hcm
                        have hσ4 := recvO (ps := ps) (B := B) (n := n) (room := room) (w := w) (fr := wi) (ru := ri) (nd := nd) (ev := ev) (R := (rs.getD ri rD)) (σ := (E, c, md, ag, 0)) (k := k + 1) (by rw [hσ3]; exact hov3) (w.2.length - (k + 1))
                        rw [show k + 1 + (w.2.length - (k + 1)) = w.2.length by omega, hst2, hσ3] at hσ4
                        obtain ⟨rfl, rfl, rfl, rfl, rfl⟩ := five_eq hσ4
                        refine lv_iconst (v := -1) hx hb d_M_allSteps_158 (by decide) ?_
                        exact r_ret hQ (r_iret (fa5, bw5, zv5) hx hb hr hlk hw (⟨by rw [asR, if_neg hov3], by omega, hm5, kpt (kpt hk2 kp1) hk5, hb5⟩) (by omega) (by omega) d_M_allSteps_159)
                    · skip
                      exact absurd c_143 (by decide)
          refine r_if_le (tgt := 104) hx hb (by omega) d_M_allSteps_78 (by decide) (fun c_78 => ?_) (fun c_78 => ?_)
          · skip
            refine lv_iconst (v := nI 0) hx hb d_M_allSteps_104 rfl ?_
            exact Lp105 0 (Or.inl ⟨rfl, by omega⟩) _ _ _ (lv_sub hl [1, 2, 3, 4, 5, 6, 0] rfl) hw
          · skip
            refine lv_aload_n hx hb d_M_allSteps_81 rfl (lv_at hl 1 rfl) ?_
            refine g_M_40 hx hb hts hown hK hw 0 rfl rfl d_M_allSteps_82 ?_
            refine lv_bipush (v := nI 12) hx hb d_M_allSteps_85 (by decide) ?_
            refine lv_iload_n hx hb d_M_allSteps_87 rfl (lv_at hl 2 rfl) ?_
            refine r_imulN hx hb d_M_allSteps_88 ?_
            refine lv_iconst (v := nI 4) hx hb d_M_allSteps_89 rfl ?_
            refine r_iaddN hx hb d_M_allSteps_90 ?_
            refine lv_iload hx hb d_M_allSteps_91 (lv_at hl 6 rfl) ?_
            refine r_iaddN hx hb d_M_allSteps_93 ?_
            refine r_iald hx hb hK hw 9 rfl (by omega) (by omega) d_M_allSteps_94 ?_
            refine r_eq (show (fa2 9) (((12 * wi) + 4) + k) = nI (w.2.getD (k - 1) 0) from by rw [show 12 * wi + 4 + k = 12 * wi + 5 + (k - 1) by omega]; exact hrw2.cd (by omega)) ?_
            refine lv_iload hx hb d_M_allSteps_95 (lv_at hl 0 rfl) ?_
            refine r_icmp_ne (tgt := 104) hx hb (by omega) (by omega) d_M_allSteps_97 (by decide) (fun c_97 => ?_) (fun c_97 => ?_)
            · skip
              refine lv_iconst (v := nI 0) hx hb d_M_allSteps_104 rfl ?_
              exact Lp105 0 (Or.inl ⟨rfl, by omega⟩) _ _ _ (lv_sub hl [1, 2, 3, 4, 5, 6, 0] rfl) hw
            · skip
              refine lv_iconst (v := nI 1) hx hb d_M_allSteps_100 rfl ?_
              refine lv_goto (tgt := 105) hx hb d_M_allSteps_101 (by decide) ?_
              exact Lp105 1 (Or.inr ⟨rfl, by omega⟩) _ _ _ (lv_sub hl [1, 2, 3, 4, 5, 6, 0] rfl) hw
    exact Lp44 _ 0 0 E md ag fa bw zv (by omega) rfl hMR (fun _ _ => rfl) (by omega) (Nat.lt_succ_self _) _ _ _ (lv_sub hl [2, 3, 4, 5, 1, 0] rfl) hw
  · skip
    have hev : (rs.getD ri rD).2.1 = none := evI_n c_7 hro rfl
    have hst2 : stepA ps B n room w wi ri nd (rs.getD ri rD) none (E, c, md, ag, 0) = (E1, c1, md1, ag1, ov1) := by rw [ruleA, if_pos hR1, hev] at hst; exact hst
    refine lv_aload_n hx hb d_M_allSteps_10 rfl (lv_at hl 0 rfl) ?_
    refine lv_iload_n hx hb d_M_allSteps_11 rfl (lv_at hl 1 rfl) ?_
    refine lv_iload_n hx hb d_M_allSteps_12 rfl (lv_at hl 2 rfl) ?_
    refine lv_iload_n hx hb d_M_allSteps_13 rfl (lv_at hl 3 rfl) ?_
    refine lv_iconst (v := -1) hx hb d_M_allSteps_14 (by decide) ?_
    rcases hmk : mkW n w nd (rs.getD ri rD).2.2.1 (rs.getD ri rD).2.2.2 none with _ | w1
    · skip
      obtain ⟨rfl, rfl, rfl, rfl, rfl⟩ := five_eq ((step_none hmk).symm.trans hst2)
      refine xV_i (rest := []) (As := [.int (nI wi), .int (nI nd), .int (nI ri), .int (-1)]) hx hb hml hown hts hK hA hw k_M_156 (c_M_make zl G (am 0) (am 3) (am 4) (am 5) (am 6) (am 9) (am 16) n wi nd ri (rs.getD ri rD).2.2.1 (.int th) (.int (nI room)) (.int (nI Sx)) (.int (nI Kx)) (.int (nI rs.length)) (.ref (am 1)) (.ref (am 2)) (.ref (am 7)) (.ref (am 8)) (.int (nI pm.length)) (.int (nI E.length)) (.int (nI S.length)) (.int (nI md)) (.int (nI ag)) (.int (nI (deadN S S.length))) (.int (nI 0)) (.int bw) (.ref (am 10)) (.ref (am 11)) (.ref (am 12)) (.ref (am 13)) (.ref (am 14)) (.ref (am 15)) (.ref (am 17)) (.ref (am 18)) (zv 0) (zv 1) (fa 3) (fa 4) (fa 5) (fa 6) (fa 9) (fa 16) w (rs.getD ri rD).2.2.2 none (-1) none hV hn4 hnd hro.2.2.1 (by omega) (by omega) hro.2.2.2.1 hro.2.2.2.2 hrl1.2.2.1 hrl1.2.2.2.1 hrl1.2.2.2.2 hrw1 rfl (fun _ z => by cases z) (fun _ => hrn hev) hmk) ([0, 3, 4, 5, 6, 9, 16]) rfl rfl (fun _ => Nat.le_of_ble_eq_true rfl) 0 rfl rfl rfl rfl hl.1 (Nat.le_of_ble_eq_true rfl) ⟨(by omega), (by omega)⟩ ⟨(by omega), (by omega)⟩ d_M_allSteps_15 (fun r g3 H locs hp hw1 => ?_)
      have hpr := hp.2 rfl
      subst hpr
      refine W.cs (cells' := 0) (slots' := 0) rfl rfl ?_
      replace hw : WW G A zs ([oM (am 0) [.int th, .int (nI n), .int (nI room), .int (nI Sx), .int (nI Kx), .int (nI rs.length), .ref (am 1), .ref (am 2), .ref (am 3), .ref (am 4), .ref (am 5), .ref (am 6), .ref (am 7), .ref (am 8), .int (nI pm.length), .int (nI E.length), .int (nI S.length), .int (nI md), .int (nI ag), .int (nI (deadN S S.length)), .int (nI 0), .int bw, .ref (am 9), .ref (am 10), .ref (am 11), .ref (am 12), .ref (am 13), .ref (am 14), .ref (am 15), .ref (am 16), .ref (am 17), .ref (am 18), zv 0, zv 1], aI G (am 1) 40 (fa 1), aI G (am 2) 40 (fa 2), aI G (am 3) 40 (fa 3), aI G (am 4) 40 (fa 4), aI G (am 5) 160 (fa 5), aI G (am 6) 160 (fa 6), aZ G (am 7) 64 (fa 7), aI G (am 8) 96 (fa 8), aI G (am 9) 98304 (fa 9), aI G (am 10) 8192 (fa 10), aI G (am 11) 8192 (fa 11), aI G (am 12) 8192 (fa 12), aI G (am 13) 8192 (fa 13), aI G (am 14) 8192 (fa 14), aI G (am 15) 8192 (fa 15), aI G (am 16) 12 g3, aI G (am 17) 12 (fa 17), aI G (am 18) 12 (fa 18)]) H locs := hw1
      refine r_if_ne (tgt := 23) hx hb (by omega) d_M_allSteps_18 (by decide) (fun c_18 => ?_) (fun c_18 => ?_)
      · skip
        exact absurd c_18 (by decide)
      · skip
        refine lv_iconst (v := nI 0) hx hb d_M_allSteps_21 rfl ?_
        exact r_ret hQ (r_iret (va_up fa 16 g3, bw, zv) hx hb hr hlk hw (⟨by rw [asR, if_pos rfl, Nat.sub_self], by omega, hMR, kp1, fun z => absurd z (by decide)⟩) (by omega) (by omega) d_M_allSteps_22)
    · skip
      refine xV_i (rest := []) (As := [.int (nI wi), .int (nI nd), .int (nI ri), .int (-1)]) hx hb hml hown hts hK hA hw k_M_156 (c_M_make zl G (am 0) (am 3) (am 4) (am 5) (am 6) (am 9) (am 16) n wi nd ri (rs.getD ri rD).2.2.1 (.int th) (.int (nI room)) (.int (nI Sx)) (.int (nI Kx)) (.int (nI rs.length)) (.ref (am 1)) (.ref (am 2)) (.ref (am 7)) (.ref (am 8)) (.int (nI pm.length)) (.int (nI E.length)) (.int (nI S.length)) (.int (nI md)) (.int (nI ag)) (.int (nI (deadN S S.length))) (.int (nI 0)) (.int bw) (.ref (am 10)) (.ref (am 11)) (.ref (am 12)) (.ref (am 13)) (.ref (am 14)) (.ref (am 15)) (.ref (am 17)) (.ref (am 18)) (zv 0) (zv 1) (fa 3) (fa 4) (fa 5) (fa 6) (fa 9) (fa 16) w (rs.getD ri rD).2.2.2 none (-1) (some w1) hV hn4 hnd hro.2.2.1 (by omega) (by omega) hro.2.2.2.1 hro.2.2.2.2 hrl1.2.2.1 hrl1.2.2.2.1 hrl1.2.2.2.2 hrw1 rfl (fun _ z => by cases z) (fun _ => hrn hev) hmk) ([0, 3, 4, 5, 6, 9, 16]) rfl rfl (fun _ => Nat.le_of_ble_eq_true rfl) 0 rfl rfl rfl rfl hl.1 (Nat.le_of_ble_eq_true rfl) ⟨(by omega), (by omega)⟩ ⟨(by omega), (by omega)⟩ d_M_allSteps_15 (fun r g3 H locs hp hw1 => ?_)
      obtain ⟨hpr, hrow⟩ := hp.1 w1 rfl
      subst hpr
      refine W.cs (cells' := 0) (slots' := 0) rfl rfl ?_
      replace hw : WW G A zs ([oM (am 0) [.int th, .int (nI n), .int (nI room), .int (nI Sx), .int (nI Kx), .int (nI rs.length), .ref (am 1), .ref (am 2), .ref (am 3), .ref (am 4), .ref (am 5), .ref (am 6), .ref (am 7), .ref (am 8), .int (nI pm.length), .int (nI E.length), .int (nI S.length), .int (nI md), .int (nI ag), .int (nI (deadN S S.length)), .int (nI 0), .int bw, .ref (am 9), .ref (am 10), .ref (am 11), .ref (am 12), .ref (am 13), .ref (am 14), .ref (am 15), .ref (am 16), .ref (am 17), .ref (am 18), zv 0, zv 1], aI G (am 1) 40 (fa 1), aI G (am 2) 40 (fa 2), aI G (am 3) 40 (fa 3), aI G (am 4) 40 (fa 4), aI G (am 5) 160 (fa 5), aI G (am 6) 160 (fa 6), aZ G (am 7) 64 (fa 7), aI G (am 8) 96 (fa 8), aI G (am 9) 98304 (fa 9), aI G (am 10) 8192 (fa 10), aI G (am 11) 8192 (fa 11), aI G (am 12) 8192 (fa 12), aI G (am 13) 8192 (fa 13), aI G (am 14) 8192 (fa 14), aI G (am 15) 8192 (fa 15), aI G (am 16) 12 g3, aI G (am 17) 12 (fa 17), aI G (am 18) 12 (fa 18)]) H locs := hw1
      refine r_if_ne (tgt := 23) hx hb (by omega) d_M_allSteps_18 (by decide) (fun c_18 => ?_) (fun c_18 => ?_)
      · skip
        refine lv_aload_n hx hb d_M_allSteps_23 rfl (lv_at hl 0 rfl) ?_
        refine lv_iload_n hx hb d_M_allSteps_24 rfl (lv_at hl 1 rfl) ?_
        refine lv_iload_n hx hb d_M_allSteps_25 rfl (lv_at hl 3 rfl) ?_
        rcases hcm : comeA ps B n room E ag w1 (nI wi) (nI ri) with ⟨E3, ag3, ov3⟩
        obtain ⟨rfl, rfl, rfl, rfl, rfl⟩ := five_eq ((step_same (cnt := c) (md := md) hmk hcm).symm.trans hst2)
        refine xVA_i (rest := []) (As := [.int (nI wi), .int (nI ri)]) hx hb hml hown hts hK hA hw k_M_160 (c_M_step zl G am (va_up fa 16 g3) zv th bw n room Sx Kx ps pm B rs E E3 S md ag ag3 ov3 wi ri w1 (hMC.kp kp1) hE (by omega) hMR (mk_ok hV hn4 hnd hro.2.2.1 hro.2.2.2.1 hmk) hrow (by omega) hcm) 0 rfl rfl rfl rfl hl.1 (Nat.le_of_ble_eq_true rfl) ⟨(by omega), (by omega)⟩ ⟨(by omega), (by omega)⟩ d_M_allSteps_26 (fun r u5 H locs hp hw1 => ?_)
        obtain ⟨fa5, bw5, zv5⟩ := u5
        obtain ⟨hr5, hm5, hk5, hb5⟩ := hp
        refine W.cs (cells' := 0) (slots' := 0) rfl rfl ?_
        replace hw : WW G A zs ([oM (am 0) [.int th, .int (nI n), .int (nI room), .int (nI Sx), .int (nI Kx), .int (nI rs.length), .ref (am 1), .ref (am 2), .ref (am 3), .ref (am 4), .ref (am 5), .ref (am 6), .ref (am 7), .ref (am 8), .int (nI pm.length), .int (nI E3.length), .int (nI S.length), .int (nI (md + 1)), .int (nI ag3), .int (nI (deadN S S.length)), .int (anF ov3), .int bw5, .ref (am 9), .ref (am 10), .ref (am 11), .ref (am 12), .ref (am 13), .ref (am 14), .ref (am 15), .ref (am 16), .ref (am 17), .ref (am 18), zv5 0, zv5 1], aI G (am 1) 40 (fa5 1), aI G (am 2) 40 (fa5 2), aI G (am 3) 40 (fa5 3), aI G (am 4) 40 (fa5 4), aI G (am 5) 160 (fa5 5), aI G (am 6) 160 (fa5 6), aZ G (am 7) 64 (fa5 7), aI G (am 8) 96 (fa5 8), aI G (am 9) 98304 (fa5 9), aI G (am 10) 8192 (fa5 10), aI G (am 11) 8192 (fa5 11), aI G (am 12) 8192 (fa5 12), aI G (am 13) 8192 (fa5 13), aI G (am 14) 8192 (fa5 14), aI G (am 15) 8192 (fa5 15), aI G (am 16) 12 (fa5 16), aI G (am 17) 12 (fa5 17), aI G (am 18) 12 (fa5 18)]) H locs := hw1
        refine lv_if_eq (tgt := 36) hx hb d_M_allSteps_29 (by decide) (fun c_29 => ?_) (fun c_29 => ?_)
        · skip
          have hov3 := stR_0 hr5 c_29
          refine lv_iconst (v := -1) hx hb d_M_allSteps_36 (by decide) ?_
          exact r_ret hQ (r_iret (fa5, bw5, zv5) hx hb hr hlk hw (⟨by rw [asR, if_neg hov3], by omega, hm5, kpt kp1 hk5, hb5⟩) (by omega) (by omega) d_M_allSteps_37)
        · skip
          obtain rfl : ov3 = 0 := stR_1 hr5 c_29
          refine lv_iconst (v := nI 1) hx hb d_M_allSteps_32 rfl ?_
          refine lv_goto (tgt := 37) hx hb d_M_allSteps_33 (by decide) ?_
          exact r_ret hQ (r_iret (fa5, bw5, zv5) hx hb hr hlk hw (⟨by rw [asR, if_pos rfl, Nat.add_sub_cancel_left], by omega, hm5, kpt kp1 hk5, hb5⟩) (by omega) (by omega) d_M_allSteps_37)
      · skip
        exact absurd c_18 (by decide)
