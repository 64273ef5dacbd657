def sdI (oc : Option Nat) : Int32 := match oc with
  | none => -1
  | some c => nI (c / 4 % 4)
theorem make_none {w : Wh} {oc : Option Nat} {ci : Int32} (h : (ci = -1 ∧ oc = none) ∨ ∃ i, i < w.2.length ∧ ci = nI i ∧ oc = some (w.2.getD i 0) ∧ ∀ j, j < i → w.2.getD j 0 ≠ w.2.getD i 0) (hc : ci = -1) (hl : w.2.length ≤ 7) : oc = none := by
  rcases h with h | ⟨i, h1, h2, -⟩
  · exact h.2
  · rw [hc] at h2
    exact absurd h2.symm (nI_neg (by omega))
theorem make_cpy {gh g : Nat → Int32} {w : Wh} (h : Cds gh 0 w.2) (hl : w.2.length ≤ 7) : Cds (va_cpy gh g 0 0 8) 0 w.2 := by
  intro i hi
  rw [pk_cpy_in (Nat.zero_le _) (by omega)]
  simpa using h i hi
theorem bs_ok {n : Nat} {w : Wh} {oc : Option Nat} (hV : Vl n w) : (bsA w oc).length ≤ 7 ∧ (∀ c ∈ bsA w oc, c < 96) ∧ Srt (bsA w oc) := by
  have h7 := hV.2.2.2.1
  cases oc with
  | none => exact ⟨h7, fun c hc => (hV.2.2.2.2.1 c hc).1, hV.2.2.2.2.2⟩
  | some d => exact ⟨Nat.le_trans (List.Sublist.length_le List.erase_sublist) h7, fun c hc => (hV.2.2.2.2.1 c (List.mem_of_mem_erase hc)).1, List.Pairwise.sublist List.erase_sublist hV.2.2.2.2.2⟩
theorem isT_0 {nd wh t : Nat} {oc : Option Nat} {sd : Int32} (hsd : sd = sdI oc) (h : wh = 0) (he : nI t = sd) (ht : t < 100) : isT nd (sdA oc) wh t = true := by
  unfold isT
  rw [if_pos h]
  cases oc with
  | none => rw [hsd] at he; exact absurd he (nI_neg (by omega))
  | some c =>
    rw [hsd] at he
    have := (nI_eq (by omega) (by omega)).mp he
    simp [sdA, this]
theorem isT_0n {nd wh t : Nat} {oc : Option Nat} {sd : Int32} (hsd : sd = sdI oc) (h : wh = 0) (he : ¬ nI t = sd) (ht : t < 99) : ¬ isT nd (sdA oc) wh t = true := by
  unfold isT
  rw [if_pos h]
  cases oc with
  | none => simp [sdA]; omega
  | some c =>
    rw [hsd] at he
    simp only [sdA, beq_iff_eq]
    intro z
    exact he (by rw [z]; rfl)
theorem isT_1 {nd sd wh t : Nat} (h : wh ≠ 0) (he : t ≠ nd) : isT nd sd wh t = true := by
  unfold isT
  rw [if_neg h]; simpa using he
theorem isT_1n {nd sd wh t : Nat} (h : wh ≠ 0) (he : t = nd) : ¬ isT nd sd wh t = true := by
  unfold isT
  rw [if_neg h]; simpa using he
theorem mk_none {n nd to : Nat} {w : Wh} {sends : List (Nat × Nat)} {oc : Option Nat} (h : ¬ (bsA w oc).length + (addsA n nd (sdA oc) sends).length ≤ 7) : mkW n w nd to sends oc = none := by
  unfold mkW; rw [if_neg h]
theorem acc_7 {n nd k : Nat} {sd : Nat} {base : List Nat} {sends : List (Nat × Nat)} (hk : k = sends.length) (h7 : (mkAcc n nd sd sends base k 0).length ≤ 7) : base.length + (addsA n nd sd sends).length ≤ 7 := by
  rw [acc_fin hk, fold_len] at h7; omega
theorem make_nn {n nd to k : Nat} {w : Wh} {sends : List (Nat × Nat)} {oc : Option Nat} (hk : k = sends.length) (h7 : (mkAcc n nd (sdA oc) sends (bsA w oc) k 0).length ≤ 7) : ¬ mkW n w nd to sends oc = none := by
  unfold mkW
  rw [if_pos (acc_7 hk h7)]
  intro z; cases z
theorem make_some {n nd to k : Nat} {w w1 : Wh} {sends : List (Nat × Nat)} {oc : Option Nat} {fh f g : Nat → Int32} (h : mkW n w nd to sends oc = some w1) (hk : k = sends.length) (hg : Cds g 0 (mkAcc n nd (sdA oc) sends (bsA w oc) k 0)) (h7 : (mkAcc n nd (sdA oc) sends (bsA w oc) k 0).length ≤ 7) (hl : w.1.length = 4) (hfh : Sts fh w) :
    nI 1 = nI 1 ∧ Sts (upd (va_cpy fh f 0 0 4) nd (nI to)) w1 ∧ Cds g 0 w1.2 ∧ nI (mkAcc n nd (sdA oc) sends (bsA w oc) k 0).length = nI w1.2.length := by
  unfold mkW at h
  rw [if_pos (acc_7 hk h7)] at h
  cases h
  rw [acc_fin hk] at hg ⊢
  refine ⟨rfl, fun i hi => ?_, hg, rfl⟩
  rw [set_dg hl hi, upd]
  by_cases he : i = nd
  · rw [if_pos he, if_pos he]
  · rw [if_neg he, if_neg he, pk_cpy_in (Nat.zero_le _) (by omega)]
    simpa using hfh i hi
set_option maxHeartbeats 4000000 in
set_option maxRecDepth 100000 in
theorem c_X_make (zl : Launch) (G : GG) (h0 hn qs qc hh qs2 qc2 hr0 qk qw n nd to : Nat) (v1 v2 v3 v4 v5 v6 v7 v8 v9 v10 v11 v12 v13 v14 v15 v16 v17 v18 v19 v20 v21 v24 v25 v26 : Value) (r0 r1 z0 : Value) (f g fh gh fk fw : Nat → Int32) (w : Wh) (sends : List (Nat × Nat)) (oc : Option Nat) (ci sd : Int32) (o : Option Wh) (hV : Vl n w) (hn4 : n ≤ 4) (hnd : nd < n) (hto : to < 8) (hS : ∀ s ∈ sends, s.1 < 6 ∧ s.2 < 2) (hs4 : sends.length ≤ 4) (hfk : ∀ i, i < sends.length → fk i = nI (sends.getD i (0, 0)).1) (hfw : ∀ i, i < sends.length → fw i = nI (sends.getD i (0, 0)).2) (hfh : Sts fh w) (hg : Cds gh 0 w.2) (hci : (ci = -1 ∧ oc = none) ∨ ∃ i, i < w.2.length ∧ ci = nI i ∧ oc = some (w.2.getD i 0) ∧ ∀ j, j < i → w.2.getD j 0 ≠ w.2.getD i 0) (hsd : sd = sdI oc) (ho : mkW n w nd to sends oc = o) : Ctr (S := (Nat → Int32) × (Nat → Int32) × Int32) vI zl y_X_make b_X_make 8 (Option.some Jvm.ClassFile.FieldType.boolean) 2 0 0 G [.ref h0, .ref hr0, .int (nI nd), .int ci, .int sd] ([oX h0 [.int (nI n), v1, v2, v3, v4, v5, v6, v7, v8, v9, v10, v11, v12, v13, v14, v15, v16, v17, v18, v19, v20, v21, .ref hh, .ref hn, v24, v25, v26], oW hn [.ref qs, .ref qc, z0], aI G qs 4 f, aI G qc 8 g, oW hh [.ref qs2, .ref qc2, .int (nI w.2.length)], aI G qs2 4 fh, aI G qc2 8 gh, oR hr0 [r0, r1, .int (nI to), .ref qk, .ref qw, .int (nI sends.length)], aI G qk 4 fk, aI G qw 4 fw]) (fun r u => (∀ w1, o = some w1 → r = nI 1 ∧ Sts u.1 w1 ∧ Cds u.2.1 0 w1.2 ∧ u.2.2 = nI w1.2.length) ∧ (o = none → r = nI 0)) (fun u => [oX h0 [.int (nI n), v1, v2, v3, v4, v5, v6, v7, v8, v9, v10, v11, v12, v13, v14, v15, v16, v17, v18, v19, v20, v21, .ref hh, .ref hn, v24, v25, v26], oW hn [.ref qs, .ref qc, .int u.2.2], aI G qs 4 u.1, aI G qc 8 u.2.1, oW hh [.ref qs2, .ref qc2, .int (nI w.2.length)], aI G qs2 4 fh, aI G qc2 8 gh, oR hr0 [r0, r1, .int (nI to), .ref qk, .ref qw, .int (nI sends.length)], aI G qk 4 fk, aI G qw 4 fw]) := by
  refine Ctr.start (by decide) (Nat.le_of_ble_eq_true rfl) ?_
  intro zp ze zs zm below meth zc A ls C0 hin hK hA hl hw
  obtain ⟨hx, hb, hr, hlk, hml, hown, hts⟩ := C0
  obtain ⟨R, hRR⟩ : ∃ R : Room, R = rmL 2 0 0 := ⟨_, rfl⟩
  have hRf : R.frames = 2 := by rw [hRR]
  have hRl : R.locals = 64 * 2 := by rw [hRR]
  have hRc : R.cells = 0 := by rw [hRR]
  have hRs : R.slots = 0 := by rw [hRR]
  rw [← hRR]; clear hRR
  generalize hQ : MQ below _ _ zs _ _ A = Q
  generalize hAr : List.toArray _ = args at hts hQ ⊢
  replace hl : lv_has ls 8 [(0, .ref h0), (1, .ref hr0), (2, .int (nI nd)), (3, .int ci), (4, .int sd)] := hl
  obtain ⟨H, eH⟩ : ∃ H : Heap, H = zs.heap := ⟨_, rfl⟩
  obtain ⟨locs, eL⟩ : ∃ l0 : List Loc, l0 = [] := ⟨_, rfl⟩
  rw [← eH, ← eL] at hw ⊢; clear eH eL
  have hbb := bs_ok (oc := oc) hV
  obtain ⟨hb7, hbcb, hbsrt⟩ := hbb
  have hlw := hV.2.2.2.1
  refine lv_aload_n hx hb d_X_make_0 rfl (lv_at hl 0 rfl) ?_
  refine g_X_59 hx hb hts hown hK hw 0 rfl rfl d_X_make_1 ?_
  refine lv_aload_n hx hb d_X_make_4 rfl (lv_at hl 0 rfl) ?_
  refine g_X_55 hx hb hts hown hK hw 0 rfl rfl d_X_make_5 ?_
  refine xV_v (rest := []) (As := [.ref hh]) hx hb hml hown hts hK hA hw k_X_193 (c_W_become zl G hn qs qc hh qs2 qc2 w.2.length z0 f g fh gh) [1, 2, 3, 4, 5, 6] rfl rfl (fun _ => Nat.le_of_ble_eq_true rfl) 0 rfl rfl rfl rfl hl.1 (Nat.le_of_ble_eq_true rfl) ⟨(by omega), (by omega)⟩ ⟨(by omega), (by omega)⟩ d_X_make_8 (fun _ u H locs hp hw1 => ?_)
  refine W.cs (cells' := 0) (slots' := 0) rfl rfl ?_
  replace hw : WW G A zs ([oX h0 [.int (nI n), v1, v2, v3, v4, v5, v6, v7, v8, v9, v10, v11, v12, v13, v14, v15, v16, v17, v18, v19, v20, v21, .ref hh, .ref hn, v24, v25, v26], oW hn [.ref qs, .ref qc, .int (nI w.2.length)], aI G qs 4 (va_cpy fh f 0 0 4), aI G qc 8 (va_cpy gh g 0 0 8), oW hh [.ref qs2, .ref qc2, .int (nI w.2.length)], aI G qs2 4 fh, aI G qc2 8 gh, oR hr0 [r0, r1, .int (nI to), .ref qk, .ref qw, .int (nI sends.length)], aI G qk 4 fk, aI G qw 4 fw]) H locs := hw1
  refine lv_aload_n hx hb d_X_make_11 rfl (lv_at hl 0 rfl) ?_
  refine g_X_59 hx hb hts hown hK hw 0 rfl rfl d_X_make_12 ?_
  refine g_X_180 hx hb hts hown hK hw 1 rfl rfl d_X_make_15 ?_
  refine lv_iload_n hx hb d_X_make_18 rfl (lv_at hl 2 rfl) ?_
  refine lv_aload_n hx hb d_X_make_19 rfl (lv_at hl 1 rfl) ?_
  refine g_X_197 hx hb hts hown hK hw 7 rfl rfl d_X_make_20 ?_
  refine r_iast hx hb hK hw 2 rfl (by omega) (by omega) d_X_make_23 (fun H locs hw1 => ?_)
  replace hw : WW G A zs ([oX h0 [.int (nI n), v1, v2, v3, v4, v5, v6, v7, v8, v9, v10, v11, v12, v13, v14, v15, v16, v17, v18, v19, v20, v21, .ref hh, .ref hn, v24, v25, v26], oW hn [.ref qs, .ref qc, .int (nI w.2.length)], aI G qs 4 (upd (va_cpy fh f 0 0 4) nd (nI to)), aI G qc 8 (va_cpy gh g 0 0 8), oW hh [.ref qs2, .ref qc2, .int (nI w.2.length)], aI G qs2 4 fh, aI G qc2 8 gh, oR hr0 [r0, r1, .int (nI to), .ref qk, .ref qw, .int (nI sends.length)], aI G qk 4 fk, aI G qw 4 fw]) H locs := hw1
  have Lp37 : ∀ (g1 : Nat → Int32), (Cds g1 0 (bsA w oc)) → ∀ (H : Heap) (locs : List Loc) (ls : Array Slot), lv_has ls 8 [(0, .ref h0), (1, .ref hr0), (2, .int (nI nd)), (4, .int sd)] → WW G A zs ([oX h0 [.int (nI n), v1, v2, v3, v4, v5, v6, v7, v8, v9, v10, v11, v12, v13, v14, v15, v16, v17, v18, v19, v20, v21, .ref hh, .ref hn, v24, v25, v26], oW hn [.ref qs, .ref qc, .int (nI ((bsA w oc).length))], aI G qs 4 (upd (va_cpy fh f 0 0 4) nd (nI to)), aI G qc 8 g1, oW hh [.ref qs2, .ref qc2, .int (nI w.2.length)], aI G qs2 4 fh, aI G qc2 8 gh, oR hr0 [r0, r1, .int (nI to), .ref qk, .ref qw, .int (nI sends.length)], aI G qk 4 fk, aI G qw 4 fw]) H locs → W zp zl ze R zs zm args below meth zc H locs 0 0 Q (F0 zm 37 ls []) := by
    intro g1 hg1 H locs ls hl hw
    refine lv_iconst (v := nI 0) hx hb d_X_make_37 rfl ?_
    refine lv_istore (lv' := [(5, .int (nI 0)), (0, .ref h0), (1, .ref hr0), (2, .int (nI nd)), (4, .int sd)]) hx hb d_X_make_38 hl (by decide) rfl (fun ls hl => ?_)
    have Lp40 : ∀ N_40 : Nat, ∀ (k : Nat) (g1 : Nat → Int32), (k ≤ sends.length) → (Cds g1 0 (mkAcc n nd (sdA oc) sends (bsA w oc) k 0)) → ((mkAcc n nd (sdA oc) sends (bsA w oc) k 0).length ≤ 7) → sends.length - k < N_40 → ∀ (H : Heap) (locs : List Loc) (ls : Array Slot), lv_has ls 8 [(0, .ref h0), (1, .ref hr0), (2, .int (nI nd)), (4, .int sd), (5, .int (nI k))] → WW G A zs ([oX h0 [.int (nI n), v1, v2, v3, v4, v5, v6, v7, v8, v9, v10, v11, v12, v13, v14, v15, v16, v17, v18, v19, v20, v21, .ref hh, .ref hn, v24, v25, v26], oW hn [.ref qs, .ref qc, .int (nI ((mkAcc n nd (sdA oc) sends (bsA w oc) k 0).length))], aI G qs 4 (upd (va_cpy fh f 0 0 4) nd (nI to)), aI G qc 8 g1, oW hh [.ref qs2, .ref qc2, .int (nI w.2.length)], aI G qs2 4 fh, aI G qc2 8 gh, oR hr0 [r0, r1, .int (nI to), .ref qk, .ref qw, .int (nI sends.length)], aI G qk 4 fk, aI G qw 4 fw]) H locs → W zp zl ze R zs zm args below meth zc H locs 0 0 Q (F0 zm 40 ls []) := by
      intro N_40
      induction N_40 with
      | zero => intros; omega
      | succ N_40 ih_40 =>
        intro k g1 hk hg2 h7 hN_40 H locs ls hl hw
        refine lv_iload hx hb d_X_make_40 (lv_at hl 4 rfl) ?_
        refine lv_aload_n hx hb d_X_make_42 rfl (lv_at hl 1 rfl) ?_
        refine g_X_138 hx hb hts hown hK hw 7 rfl rfl d_X_make_43 ?_
        refine r_icmp_ge (tgt := 144) hx hb (by omega) (by omega) d_X_make_46 (by decide) (fun c_46 => ?_) (fun c_46 => ?_)
        · skip
          refine lv_iconst (v := nI 1) hx hb d_X_make_144 rfl ?_
          exact r_ret hQ (r_zret (_, _, _) hx hb hr hlk hw (⟨fun w1 z => make_some (ho.trans z) (by omega) hg2 h7 hV.1 hfh, fun z => absurd (ho.trans z) (make_nn (by omega) h7)⟩) (by decide) (by omega) (by omega) d_X_make_145)
        · skip
          refine lv_iconst (v := nI 0) hx hb d_X_make_49 rfl ?_
          refine lv_istore (lv' := [(6, .int (nI 0)), (0, .ref h0), (1, .ref hr0), (2, .int (nI nd)), (4, .int sd), (5, .int (nI k))]) hx hb d_X_make_50 hl (by decide) rfl (fun ls hl => ?_)
          have Lp52 : ∀ N_52 : Nat, ∀ (t : Nat) (g1 : Nat → Int32), (t ≤ n) → (Cds g1 0 (mkAcc n nd (sdA oc) sends (bsA w oc) k t)) → ((mkAcc n nd (sdA oc) sends (bsA w oc) k t).length ≤ 7) → n - t < N_52 → ∀ (H : Heap) (locs : List Loc) (ls : Array Slot), lv_has ls 8 [(0, .ref h0), (1, .ref hr0), (2, .int (nI nd)), (4, .int sd), (5, .int (nI k)), (6, .int (nI t))] → WW G A zs ([oX h0 [.int (nI n), v1, v2, v3, v4, v5, v6, v7, v8, v9, v10, v11, v12, v13, v14, v15, v16, v17, v18, v19, v20, v21, .ref hh, .ref hn, v24, v25, v26], oW hn [.ref qs, .ref qc, .int (nI ((mkAcc n nd (sdA oc) sends (bsA w oc) k t).length))], aI G qs 4 (upd (va_cpy fh f 0 0 4) nd (nI to)), aI G qc 8 g1, oW hh [.ref qs2, .ref qc2, .int (nI w.2.length)], aI G qs2 4 fh, aI G qc2 8 gh, oR hr0 [r0, r1, .int (nI to), .ref qk, .ref qw, .int (nI sends.length)], aI G qk 4 fk, aI G qw 4 fw]) H locs → W zp zl ze R zs zm args below meth zc H locs 0 0 Q (F0 zm 52 ls []) := by
            intro N_52
            induction N_52 with
            | zero => intros; omega
            | succ N_52 ih_52 =>
              intro t g1 ht hg3 h73 hN_52 H locs ls hl hw
              refine lv_iload hx hb d_X_make_52 (lv_at hl 5 rfl) ?_
              refine lv_aload_n hx hb d_X_make_54 rfl (lv_at hl 0 rfl) ?_
              refine g_X_74 hx hb hts hown hK hw 0 rfl rfl d_X_make_55 ?_
              refine r_icmp_ge (tgt := 138) hx hb (by omega) (by omega) d_X_make_58 (by decide) (fun c_58 => ?_) (fun c_58 => ?_)
              · skip
                refine r_iincN (n := 1) (lv' := [(5, .int (nI (k + 1))), (0, .ref h0), (1, .ref hr0), (2, .int (nI nd)), (4, .int sd), (6, .int (nI t))]) hx hb d_X_make_138 hl (k := 4) rfl (by decide) rfl (fun ls hl => ?_)
                refine lv_goto (tgt := 40) hx hb d_X_make_141 (by decide) ?_
                rw [show (mkAcc n nd (sdA oc) sends (bsA w oc) k t).length = (mkAcc n nd (sdA oc) sends (bsA w oc) (k + 1) 0).length by rw [← acc_next c_46]; rw [show t = n by omega]] at hw
                exact ih_40 (k + 1) g1 (by omega) (by rw [← acc_next c_46]; have hz := hg3; rw [show t = n by omega] at hz; exact hz) (by rw [← acc_next c_46]; have hz := h73; rw [show t = n by omega] at hz; exact hz) (by omega) _ _ _ (lv_sub hl [1, 2, 3, 4, 0] rfl) hw
              · skip
                have hsl := sends_lt hS c_46
                have Lp97 : ∀ (v : Nat), (v = if isT nd (sdA oc) (sends.getD k (0, 0)).2 t = true then 1 else 0) → ∀ (H : Heap) (locs : List Loc) (ls : Array Slot), lv_has ls 8 [(0, .ref h0), (1, .ref hr0), (2, .int (nI nd)), (4, .int sd), (5, .int (nI k)), (6, .int (nI t))] → WW G A zs ([oX h0 [.int (nI n), v1, v2, v3, v4, v5, v6, v7, v8, v9, v10, v11, v12, v13, v14, v15, v16, v17, v18, v19, v20, v21, .ref hh, .ref hn, v24, v25, v26], oW hn [.ref qs, .ref qc, .int (nI ((mkAcc n nd (sdA oc) sends (bsA w oc) k t).length))], aI G qs 4 (upd (va_cpy fh f 0 0 4) nd (nI to)), aI G qc 8 g1, oW hh [.ref qs2, .ref qc2, .int (nI w.2.length)], aI G qs2 4 fh, aI G qc2 8 gh, oR hr0 [r0, r1, .int (nI to), .ref qk, .ref qw, .int (nI sends.length)], aI G qk 4 fk, aI G qw 4 fw]) H locs → W zp zl ze R zs zm args below meth zc H locs 0 0 Q (F0 zm 97 ls [.int (nI v)]) := by
                  intro v hv H locs ls hl hw
                  refine lv_istore (lv' := [(7, .int (nI v)), (0, .ref h0), (1, .ref hr0), (2, .int (nI nd)), (4, .int sd), (5, .int (nI k)), (6, .int (nI t))]) hx hb d_X_make_97 hl (by decide) rfl (fun ls hl => ?_)
                  refine lv_iload hx hb d_X_make_99 (lv_at hl 0 rfl) ?_
                  refine r_if_eq (tgt := 132) hx hb (by rw [hv]; split <;> omega) d_X_make_101 (by decide) (fun c_101 => ?_) (fun c_101 => ?_)
                  · skip
                    have hT9 : isT nd (sdA oc) (sends.getD k (0, 0)).2 t = false := by rw [c_101] at hv; cases hz : isT nd (sdA oc) (sends.getD k (0, 0)).2 t with | true => rw [hz, if_pos rfl] at hv; omega | false => rfl
                    refine r_iincN (n := 1) (lv' := [(6, .int (nI (t + 1))), (7, .int (nI v)), (0, .ref h0), (1, .ref hr0), (2, .int (nI nd)), (4, .int sd), (5, .int (nI k))]) hx hb d_X_make_132 hl (k := 6) rfl (by decide) rfl (fun ls hl => ?_)
                    refine lv_goto (tgt := 52) hx hb d_X_make_135 (by decide) ?_
                    rw [show (mkAcc n nd (sdA oc) sends (bsA w oc) k t).length = (mkAcc n nd (sdA oc) sends (bsA w oc) k (t + 1)).length by rw [acc_skip hT9]] at hw
                    exact ih_52 (t + 1) g1 (by omega) (by rw [acc_skip hT9]; exact hg3) (by rw [acc_skip hT9]; exact h73) (by omega) _ _ _ (lv_sub hl [2, 3, 4, 5, 6, 0] rfl) hw
                  · skip
                    have hT9 : isT nd (sdA oc) (sends.getD k (0, 0)).2 t = true := by cases hz : isT nd (sdA oc) (sends.getD k (0, 0)).2 t with | true => rfl | false => rw [hz, if_neg (by decide)] at hv; omega
                    refine lv_aload_n hx hb d_X_make_104 rfl (lv_at hl 1 rfl) ?_
                    refine g_X_59 hx hb hts hown hK hw 0 rfl rfl d_X_make_105 ?_
                    refine lv_aload_n hx hb d_X_make_108 rfl (lv_at hl 2 rfl) ?_
                    refine g_X_139 hx hb hts hown hK hw 7 rfl rfl d_X_make_109 ?_
                    refine lv_iload hx hb d_X_make_112 (lv_at hl 5 rfl) ?_
                    refine r_iald hx hb hK hw 8 rfl (by omega) (by omega) d_X_make_114 ?_
                    refine r_eq (show fk k = nI ((sends.getD k (0, 0)).1) from hfk k c_46) ?_
                    refine lv_iconst (v := nI 4) hx hb d_X_make_115 rfl ?_
                    refine r_ishlN hx hb (k := 4) (by omega) (by omega) d_X_make_116 ?_
                    refine lv_iload_n hx hb d_X_make_117 rfl (lv_at hl 3 rfl) ?_
                    refine lv_iconst (v := nI 2) hx hb d_X_make_118 rfl ?_
                    refine r_ishlN hx hb (k := 2) (by omega) (by omega) d_X_make_119 ?_
                    refine r_iorN hx hb d_X_make_120 ?_
                    refine lv_iload hx hb d_X_make_121 (lv_at hl 6 rfl) ?_
                    refine r_iorN hx hb d_X_make_123 ?_
                    refine r_eq (show nI (((((sends.getD k (0, 0)).1) * 2 ^ 4) ||| (nd * 2 ^ 2)) ||| t) = nI (16 * (sends.getD k (0, 0)).1 + 4 * nd + t) from congrArg nI (or_code _ hsl.1 _ (by omega) _ (by omega))) ?_
                    by_cases hsp : (mkAcc n nd (sdA oc) sends (bsA w oc) k t).length < 7
                    · skip
                      refine xV_i (rest := []) (As := [.int (nI (16 * (sends.getD k (0, 0)).1 + 4 * nd + t))]) hx hb hml hown hts hK hA hw k_X_204 (c_W_add zl G hn qs qc (16 * (sends.getD k (0, 0)).1 + 4 * nd + t) g1 (mkAcc n nd (sdA oc) sends (bsA w oc) k t) (acc_srt hbsrt) hsp (acc_cb hbcb (fun s hs9 => (hS s hs9).1) (by omega) hn4 (by omega)) (by omega) hg3) [1, 3] rfl rfl (fun _ => Nat.le_of_ble_eq_true rfl) 0 rfl rfl rfl rfl hl.1 (Nat.le_of_ble_eq_true rfl) ⟨(by omega), (by omega)⟩ ⟨(by omega), (by omega)⟩ d_X_make_124 (fun r g4 H locs hp hw1 => ?_)
                      obtain ⟨rfl, hp⟩ := hp
                      refine W.cs (cells' := 0) (slots' := 0) rfl rfl ?_
                      replace hw : WW G A zs ([oX h0 [.int (nI n), v1, v2, v3, v4, v5, v6, v7, v8, v9, v10, v11, v12, v13, v14, v15, v16, v17, v18, v19, v20, v21, .ref hh, .ref hn, v24, v25, v26], oW hn [.ref qs, .ref qc, .int (nI ((mkAcc n nd (sdA oc) sends (bsA w oc) k t).length + 1))], aI G qs 4 (upd (va_cpy fh f 0 0 4) nd (nI to)), aI G qc 8 g4, oW hh [.ref qs2, .ref qc2, .int (nI w.2.length)], aI G qs2 4 fh, aI G qc2 8 gh, oR hr0 [r0, r1, .int (nI to), .ref qk, .ref qw, .int (nI sends.length)], aI G qk 4 fk, aI G qw 4 fw]) H locs := hw1
                      refine r_if_ne (tgt := 132) hx hb (by omega) d_X_make_127 (by decide) (fun c_127 => ?_) (fun c_127 => ?_)
                      · skip
                        refine r_iincN (n := 1) (lv' := [(6, .int (nI (t + 1))), (7, .int (nI v)), (0, .ref h0), (1, .ref hr0), (2, .int (nI nd)), (4, .int sd), (5, .int (nI k))]) hx hb d_X_make_132 hl (k := 6) rfl (by decide) rfl (fun ls hl => ?_)
                        refine lv_goto (tgt := 52) hx hb d_X_make_135 (by decide) ?_
                        rw [show (mkAcc n nd (sdA oc) sends (bsA w oc) k t).length + 1 = (mkAcc n nd (sdA oc) sends (bsA w oc) k (t + 1)).length by rw [acc_add hT9, ins_len]] at hw
                        exact ih_52 (t + 1) g4 (by omega) (by rw [acc_add hT9]; exact hp) (by rw [acc_add hT9, ins_len]; omega) (by omega) _ _ _ (lv_sub hl [2, 3, 4, 5, 6, 0] rfl) hw
                      · skip
                        exact absurd c_127 (by decide)
                    · skip
                      refine xV_i (rest := []) (As := [.int (nI (16 * (sends.getD k (0, 0)).1 + 4 * nd + t))]) hx hb hml hown hts hK hA hw k_X_204 (c_W_addF zl G hn qs qc (16 * (sends.getD k (0, 0)).1 + 4 * nd + t) (mkAcc n nd (sdA oc) sends (bsA w oc) k t).length g1 (by omega)) [1, 3] rfl rfl (fun _ => Nat.le_of_ble_eq_true rfl) 0 rfl rfl rfl rfl hl.1 (Nat.le_of_ble_eq_true rfl) ⟨(by omega), (by omega)⟩ ⟨(by omega), (by omega)⟩ d_X_make_124 (fun r u H locs hp hw1 => ?_)
                      subst hp
                      refine W.cs (cells' := 0) (slots' := 0) rfl rfl ?_
                      replace hw : WW G A zs ([oX h0 [.int (nI n), v1, v2, v3, v4, v5, v6, v7, v8, v9, v10, v11, v12, v13, v14, v15, v16, v17, v18, v19, v20, v21, .ref hh, .ref hn, v24, v25, v26], oW hn [.ref qs, .ref qc, .int (nI ((mkAcc n nd (sdA oc) sends (bsA w oc) k t).length))], aI G qs 4 (upd (va_cpy fh f 0 0 4) nd (nI to)), aI G qc 8 g1, oW hh [.ref qs2, .ref qc2, .int (nI w.2.length)], aI G qs2 4 fh, aI G qc2 8 gh, oR hr0 [r0, r1, .int (nI to), .ref qk, .ref qw, .int (nI sends.length)], aI G qk 4 fk, aI G qw 4 fw]) H locs := hw1
                      refine r_if_ne (tgt := 132) hx hb (by omega) d_X_make_127 (by decide) (fun c_127 => ?_) (fun c_127 => ?_)
                      · skip
                        exact absurd c_127 (by decide)
                      · skip
                        refine lv_iconst (v := nI 0) hx hb d_X_make_130 rfl ?_
                        exact r_ret hQ (r_zret (_, _, _) hx hb hr hlk hw (⟨fun w1 z => absurd (ho.trans z) (by rw [mk_none (acc_fail c_46 c_58 hT9 (by omega))]; intro q; cases q), fun _ => rfl⟩) (by decide) (by omega) (by omega) d_X_make_131)
                refine lv_aload_n hx hb d_X_make_61 rfl (lv_at hl 1 rfl) ?_
                refine g_X_141 hx hb hts hown hK hw 7 rfl rfl d_X_make_62 ?_
                refine lv_iload hx hb d_X_make_65 (lv_at hl 4 rfl) ?_
                refine r_iald hx hb hK hw 9 rfl (by omega) (by omega) d_X_make_67 ?_
                refine r_eq (show fw k = nI ((sends.getD k (0, 0)).2) from hfw k c_46) ?_
                refine r_if_ne (tgt := 86) hx hb (by omega) d_X_make_68 (by decide) (fun c_68 => ?_) (fun c_68 => ?_)
                · skip
                  refine lv_iload hx hb d_X_make_86 (lv_at hl 5 rfl) ?_
                  refine lv_iload_n hx hb d_X_make_88 rfl (lv_at hl 2 rfl) ?_
                  refine r_icmp_eq (tgt := 96) hx hb (by omega) (by omega) d_X_make_89 (by decide) (fun c_89 => ?_) (fun c_89 => ?_)
                  · skip
                    refine lv_iconst (v := nI 0) hx hb d_X_make_96 rfl ?_
                    exact Lp97 0 (by rw [if_neg (isT_1n c_68 c_89)]) _ _ _ (lv_sub hl [0, 1, 2, 3, 4, 5] rfl) hw
                  · skip
                    refine lv_iconst (v := nI 1) hx hb d_X_make_92 rfl ?_
                    refine lv_goto (tgt := 97) hx hb d_X_make_93 (by decide) ?_
                    exact Lp97 1 (by rw [if_pos (isT_1 c_68 c_89)]) _ _ _ (lv_sub hl [0, 1, 2, 3, 4, 5] rfl) hw
                · skip
                  refine lv_iload hx hb d_X_make_71 (lv_at hl 5 rfl) ?_
                  refine lv_iload hx hb d_X_make_73 (lv_at hl 3 rfl) ?_
                  refine lv_icmp_ne (tgt := 82) hx hb d_X_make_75 (by decide) (fun c_75 => ?_) (fun c_75 => ?_)
                  · skip
                    refine lv_iconst (v := nI 0) hx hb d_X_make_82 rfl ?_
                    refine lv_goto (tgt := 97) hx hb d_X_make_83 (by decide) ?_
                    exact Lp97 0 (by rw [if_neg (isT_0n hsd c_68 c_75 (by omega))]) _ _ _ (lv_sub hl [0, 1, 2, 3, 4, 5] rfl) hw
                  · skip
                    refine lv_iconst (v := nI 1) hx hb d_X_make_78 rfl ?_
                    refine lv_goto (tgt := 97) hx hb d_X_make_79 (by decide) ?_
                    exact Lp97 1 (by rw [if_pos (isT_0 hsd c_68 c_75 (by omega))]) _ _ _ (lv_sub hl [0, 1, 2, 3, 4, 5] rfl) hw
          exact Lp52 _ 0 g1 (by omega) hg2 h7 (Nat.lt_succ_self _) _ _ _ (lv_sub hl [1, 2, 3, 4, 5, 0] rfl) hw
    rw [show (bsA w oc).length = (mkAcc n nd (sdA oc) sends (bsA w oc) 0 0).length by rw [acc_0]] at hw
    exact Lp40 _ 0 g1 (by omega) (by rw [acc_0]; exact hg1) (by rw [acc_0]; exact hb7) (Nat.lt_succ_self _) _ _ _ (lv_sub hl [1, 2, 3, 4, 0] rfl) hw
  refine lv_iload_n hx hb d_X_make_24 rfl (lv_at hl 3 rfl) ?_
  refine lv_iconst (v := -1) hx hb d_X_make_25 (by decide) ?_
  refine lv_icmp_eq (tgt := 37) hx hb d_X_make_26 (by decide) (fun c_26 => ?_) (fun c_26 => ?_)
  · skip
    have hoc := make_none hci c_26 hlw
    subst hoc
    exact Lp37 (va_cpy gh g 0 0 8) (make_cpy hg hlw) _ _ _ (lv_sub hl [0, 1, 2, 4] rfl) hw
  · skip
    obtain ⟨i, hi, hci2, hoc, hfst⟩ := hci.resolve_left (fun z => c_26 z.1)
    have hbs : bsA w oc = w.2.eraseIdx i := by rw [hoc]; exact erase_idx hi hfst
    refine lv_aload_n hx hb d_X_make_29 rfl (lv_at hl 0 rfl) ?_
    refine g_X_59 hx hb hts hown hK hw 0 rfl rfl d_X_make_30 ?_
    refine lv_iload_n hx hb d_X_make_33 rfl (lv_at hl 3 rfl) ?_
    refine r_eq (show ci = nI i from hci2) ?_
    refine xV_v (rest := []) (As := [.int (nI i)]) hx hb hml hown hts hK hA hw k_X_200 (c_W_drop zl G hn qs qc i (va_cpy gh g 0 0 8) w.2 hV.2.2.2.1 hi (make_cpy hg hlw)) [1, 3] rfl rfl (fun _ => Nat.le_of_ble_eq_true rfl) 0 rfl rfl rfl rfl hl.1 (Nat.le_of_ble_eq_true rfl) ⟨(by omega), (by omega)⟩ ⟨(by omega), (by omega)⟩ d_X_make_34 (fun _ g4 H locs hp hw1 => ?_)
    refine W.cs (cells' := 0) (slots' := 0) rfl rfl ?_
    replace hw : WW G A zs ([oX h0 [.int (nI n), v1, v2, v3, v4, v5, v6, v7, v8, v9, v10, v11, v12, v13, v14, v15, v16, v17, v18, v19, v20, v21, .ref hh, .ref hn, v24, v25, v26], oW hn [.ref qs, .ref qc, .int (nI (w.2.length - 1))], aI G qs 4 (upd (va_cpy fh f 0 0 4) nd (nI to)), aI G qc 8 g4, oW hh [.ref qs2, .ref qc2, .int (nI w.2.length)], aI G qs2 4 fh, aI G qc2 8 gh, oR hr0 [r0, r1, .int (nI to), .ref qk, .ref qw, .int (nI sends.length)], aI G qk 4 fk, aI G qw 4 fw]) H locs := hw1
    rw [show w.2.length - 1 = (bsA w oc).length by rw [hbs, List.length_eraseIdx, if_pos hi]] at hw
    exact Lp37 g4 (by rw [hbs]; exact hp) _ _ _ (lv_sub hl [0, 1, 2, 4] rfl) hw
