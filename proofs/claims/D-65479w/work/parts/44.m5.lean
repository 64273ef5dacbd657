theorem TK.le {w : Wh} {oc : Option Nat} {k tk : Nat} (h : TK w oc k tk) : tk ≤ 1 := by
  cases oc with
  | none => exact Nat.le_of_eq h
  | some c =>
    rcases h with h | h <;> omega
section MKM
variable {n nd k to : Nat} {w w1 w2 : Wh} {oc : Option Nat} {ci : Int32} {sends : List (Nat × Nat)}
theorem mkM_no (hno : oc = none → ∀ s ∈ sends, s.2 = 1) (hk : k < sends.length) (h0 : (sends.getD k (0, 0)).2 = 0) : oc ≠ none := by
  intro z
  have := hno z (sends.getD k (0, 0)) (by rw [List.getD_eq_getElem?_getD, List.getElem?_eq_getElem hk]; exact List.getElem_mem hk)
  omega
theorem mkM_sd (hV : Vl n w) (hoc : ∀ c, oc = some c → c ∈ w.2) (h : oc ≠ none) : sdA oc < n := by
  cases oc with
  | none => exact absurd rfl h
  | some c => exact (hV.2.2.2.2.1 c (hoc c rfl)).2.2
theorem mkM_oc (hci : ci = ciI oc) (h : oc ≠ none) : ∃ c, oc = some c ∧ ci = nI c := by
  cases oc with
  | none => exact absurd rfl h
  | some c => exact ⟨c, rfl, hci⟩
theorem mkM_n (hci : ci = ciI oc) (hc : ¬ 0 ≤ ci) (hoc : ∀ c, oc = some c → c ∈ w.2) (hb : ∀ c ∈ w.2, c < 96) : oc = none := by
  cases oc with
  | none => rfl
  | some c =>
    have := hb c (hoc c rfl)
    rw [hci] at hc
    exact absurd (nI_pos' (by omega)) hc
theorem mkM_s (hci : ci = ciI oc) (hc : 0 ≤ ci) : ∃ c, oc = some c := by
  cases oc with
  | none => rw [hci] at hc; exact absurd hc (by decide)
  | some c => exact ⟨c, rfl⟩
theorem mkM_bs0 (hci : ci = ciI oc) (hc : ¬ 0 ≤ ci) (hoc : ∀ c, oc = some c → c ∈ w.2) (hb : ∀ c ∈ w.2, c < 96) : (bsA w oc).length = w.2.length - 0 := by
  rw [mkM_n hci hc hoc hb]; rfl
theorem mkM_bs1 (hci : ci = ciI oc) (hc : 0 ≤ ci) (hoc : ∀ c, oc = some c → c ∈ w.2) : 1 ≤ w.2.length ∧ w.2.length - 1 = (bsA w oc).length := by
  obtain ⟨c, rfl⟩ := mkM_s hci hc
  exact ⟨List.length_pos_of_mem (hoc c rfl), (bs_len hoc).symm⟩
theorem mkM_tk1 (hci : ci = ciI oc) (hc : ¬ 0 ≤ ci) (hoc : ∀ c, oc = some c → c ∈ w.2) (hb : ∀ c ∈ w.2, c < 96) : TK w oc 0 1 := by
  rw [mkM_n hci hc hoc hb]; rfl
theorem mkM_tk0 (hci : ci = ciI oc) (hc : 0 ≤ ci) : TK w oc 0 0 := by
  obtain ⟨c, rfl⟩ := mkM_s hci hc
  exact Or.inl ⟨rfl, by simp⟩
theorem mkM_z {f : Nat → Int32} {st : List Nat} (h : RowP f st []) : RowP f st (bsT (w.2.take 0) oc) := by
  have : bsT (w.2.take 0) oc = [] := by cases oc <;> simp [bsT]
  rw [this]; exact h
theorem mkM_t {f : Nat → Int32} {st base : List Nat} {sd t wh : Nat} (h : RowP f st (mkAcc n nd sd sends base k (if wh = 1 then t else n))) (ht : wh = 1 → t = n) : RowP f st (mkAcc n nd sd sends base k n) := by
  by_cases hc : wh = 1
  · rw [if_pos hc, ht hc] at h; exact h
  · rw [if_neg hc] at h; exact h
theorem mkM_is1 {sd wh t : Nat} (h : wh ≠ 0) (he : t ≠ nd) : isT nd sd wh t = true := isT_1 h he
theorem mkM_is0 {sd wh t : Nat} (h : wh ≠ 0) (he : t = nd) : isT nd sd wh t = false := by
  have := isT_1n (sd := sd) h he
  cases hz : isT nd sd wh t with
  | true => exact absurd hz this
  | false => rfl
theorem mkM_some (h : (bsA w oc).length + (addsA n nd (sdA oc) sends).length ≤ 7) : ∃ w1, mkW n w nd to sends oc = some w1 := by
  unfold mkW; rw [if_pos h]; exact ⟨_, rfl⟩
theorem mkM_fin {f : Nat → Int32} (h1 : mkW n w nd to sends oc = some w1) (h2 : some w1 = some w2) (hk : k = sends.length) (h7 : (bsA w oc).length + (addsA n nd (sdA oc) sends).length ≤ 7) (h : RowP f (w.1.set nd to) (mkAcc n nd (sdA oc) sends (bsA w oc) k 0)) : Row f 0 w2 := by
  cases h2
  unfold mkW at h1
  rw [if_pos h7] at h1
  cases h1
  rw [acc_fin hk] at h
  exact h.row
theorem mkM_16 (hV : Vl n w) (hn4 : n ≤ 4) (hnd : nd < n) (hoc : ∀ c, oc = some c → c ∈ w.2) (hno : oc = none → ∀ s ∈ sends, s.2 = 1) (hs4 : sends.length ≤ 4) : (addsA n nd (sdA oc) sends).length ≤ 16 := by
  have h : ∀ k, k ≤ sends.length → (addsA n nd (sdA oc) (sends.take k)).length ≤ 4 * k := by
    intro k hk
    induction k with
    | zero => rw [more_0]; omega
    | succ m ih =>
      rw [more_s (by omega)]
      have := ih (by omega)
      have : (addsT nd (sdA oc) (sends.getD m (0, 0)) n).length ≤ 4 := by
        by_cases hc : (sends.getD m (0, 0)).2 = 0
        · rw [addsT_0 hc (mkM_sd hV hoc (mkM_no hno (by omega) hc))]; exact Nat.le_of_ble_eq_true rfl
        · rw [addsT_1 hc hnd]; omega
      omega
  have := h sends.length (Nat.le_refl _)
  rw [List.take_length] at this
  omega
end MKM
set_option maxHeartbeats 4000000 in
set_option maxRecDepth 100000 in
theorem c_M_make (zl : Launch) (G : GG) (h0 qt qm qk qw qr qx n wi nd ri to : Nat) (v0 v2 v3 v4 v5 v6 v7 v12 v13 v14 v15 v16 v17 v18 v19 v20 v21 v23 v24 v25 v26 v27 v28 v30 v31 v32 v33 : Value) (ft fm fk fw fr fx : Nat → Int32) (w : Wh) (sends : List (Nat × Nat)) (oc : Option Nat) (ci : Int32) (o : Option Wh) (hV : Vl n w) (hn4 : n ≤ 4) (hnd : nd < n) (hto : to < 8) (hwi : wi < 8192) (hri : ri < 40) (hS : ∀ s ∈ sends, s.1 < 6 ∧ s.2 < 2) (hs4 : sends.length ≤ 4) (hft : ft ri = nI to) (hfm : fm ri = nI sends.length) (hfk : ∀ i, i < sends.length → fk (4 * ri + i) = nI (sends.getD i (0, 0)).1 ∧ fw (4 * ri + i) = nI (sends.getD i (0, 0)).2) (hfr : Row fr (12 * wi) w) (hci : ci = ciI oc) (hoc : ∀ c, oc = some c → c ∈ w.2) (hno : oc = none → ∀ s ∈ sends, s.2 = 1) (ho : mkW n w nd to sends oc = o) : Ctr (S := Nat → Int32) vI zl y_M_make b_M_make 10 (Option.some Jvm.ClassFile.FieldType.boolean) 1 0 0 G [.ref h0, .int (nI wi), .int (nI nd), .int (nI ri), .int ci] ([oM h0 [v0, .int (nI n), v2, v3, v4, v5, v6, v7, .ref qt, .ref qm, .ref qk, .ref qw, v12, v13, v14, v15, v16, v17, v18, v19, v20, v21, .ref qr, v23, v24, v25, v26, v27, v28, .ref qx, v30, v31, v32, v33], aI G qt 40 ft, aI G qm 40 fm, aI G qk 160 fk, aI G qw 160 fw, aI G qr 98304 fr, aI G qx 12 fx]) (fun r u => (∀ w1, o = some w1 → r = nI 1 ∧ Row u 0 w1) ∧ (o = none → r = nI 0)) (fun u => [oM h0 [v0, .int (nI n), v2, v3, v4, v5, v6, v7, .ref qt, .ref qm, .ref qk, .ref qw, v12, v13, v14, v15, v16, v17, v18, v19, v20, v21, .ref qr, v23, v24, v25, v26, v27, v28, .ref qx, v30, v31, v32, v33], aI G qt 40 ft, aI G qm 40 fm, aI G qk 160 fk, aI G qw 160 fw, aI G qr 98304 fr, aI G qx 12 u]) := by
  refine Ctr.start (by decide) (Nat.le_of_ble_eq_true rfl) ?_
  intro zp ze zs zm below meth zc A ls C0 hin hK hA hl hw
  obtain ⟨hx, hb, hr, hlk, hml, hown, hts⟩ := C0
  obtain ⟨R, hRR⟩ : ∃ R : Room, R = rmL 1 0 0 := ⟨_, rfl⟩
  have hRf : R.frames = 1 := by rw [hRR]
  have hRl : R.locals = 64 * 1 := by rw [hRR]
  have hRc : R.cells = 0 := by rw [hRR]
  have hRs : R.slots = 0 := by rw [hRR]
  rw [← hRR]; clear hRR
  generalize hQ : MQ below _ _ zs _ _ A = Q
  generalize hAr : List.toArray _ = args at hts hQ ⊢
  replace hl : lv_has ls 10 [(0, .ref h0), (1, .int (nI wi)), (2, .int (nI nd)), (3, .int (nI ri)), (4, .int ci)] := hl
  obtain ⟨H, eH⟩ : ∃ H : Heap, H = zs.heap := ⟨_, rfl⟩
  obtain ⟨locs, eL⟩ : ∃ l0 : List Loc, l0 = [] := ⟨_, rfl⟩
  rw [← eH, ← eL] at hw ⊢; clear eH eL
  have hlw := hV.2.2.2.1
  have hsw := hV.2.2.2.2.2
  have hb96 : ∀ c ∈ w.2, c < 96 := fun c hc => (hV.2.2.2.2.1 c hc).1
  obtain ⟨hb7, hbcb, hbsrt⟩ := bs_ok (oc := oc) hV
  have hadd : (addsA n nd (sdA oc) sends).length ≤ 16 := mkM_16 hV hn4 hnd hoc hno hs4
  refine lv_iconst (v := nI 0) hx hb d_M_make_0 rfl ?_
  refine lv_istore (lv' := [(5, .int (nI 0)), (0, .ref h0), (1, .int (nI wi)), (2, .int (nI nd)), (3, .int (nI ri)), (4, .int ci)]) hx hb d_M_make_1 hl (by decide) rfl (fun ls hl => ?_)
  refine lv_iconst (v := nI 0) hx hb d_M_make_3 rfl ?_
  refine lv_istore (lv' := [(6, .int (nI 0)), (5, .int (nI 0)), (0, .ref h0), (1, .int (nI wi)), (2, .int (nI nd)), (3, .int (nI ri)), (4, .int ci)]) hx hb d_M_make_4 hl (by decide) rfl (fun ls hl => ?_)
  have Lp6 : ∀ N_6 : Nat, ∀ (k : Nat) (mo : Nat), (k ≤ sends.length) → (mo = (addsA n nd (sdA oc) (sends.take k)).length) → sends.length - k < N_6 → ∀ (H : Heap) (locs : List Loc) (ls : Array Slot), lv_has ls 10 [(0, .ref h0), (1, .int (nI wi)), (2, .int (nI nd)), (3, .int (nI ri)), (4, .int ci), (5, .int (nI mo)), (6, .int (nI k))] → WW G A zs ([oM h0 [v0, .int (nI n), v2, v3, v4, v5, v6, v7, .ref qt, .ref qm, .ref qk, .ref qw, v12, v13, v14, v15, v16, v17, v18, v19, v20, v21, .ref qr, v23, v24, v25, v26, v27, v28, .ref qx, v30, v31, v32, v33], aI G qt 40 ft, aI G qm 40 fm, aI G qk 160 fk, aI G qw 160 fw, aI G qr 98304 fr, aI G qx 12 fx]) H locs → W zp zl ze R zs zm args below meth zc H locs 0 0 Q (F0 zm 6 ls []) := by
    intro N_6
    induction N_6 with
    | zero => intros; omega
    | succ N_6 ih_6 =>
      intro k mo hk hmo hN_6 H locs ls hl hw
      have hmob := addsA_mono (n := n) (nd := nd) (sd := (sdA oc)) sends k
      refine lv_iload hx hb d_M_make_6 (lv_at hl 6 rfl) ?_
      refine lv_aload_n hx hb d_M_make_8 rfl (lv_at hl 0 rfl) ?_
      refine g_M_23 hx hb hts hown hK hw 0 rfl rfl d_M_make_9 ?_
      refine lv_iload_n hx hb d_M_make_12 rfl (lv_at hl 3 rfl) ?_
      refine r_iald hx hb hK hw 2 rfl (by omega) (by omega) d_M_make_13 ?_
      refine r_eq (show fm ri = nI sends.length from hfm) ?_
      refine r_icmp_ge (tgt := 52) hx hb (by omega) (by omega) d_M_make_14 (by decide) (fun c_14 => ?_) (fun c_14 => ?_)
      · skip
        rw [show k = sends.length by omega, List.take_length] at hmo
        refine lv_aload_n hx hb d_M_make_52 rfl (lv_at hl 0 rfl) ?_
        refine g_M_40 hx hb hts hown hK hw 0 rfl rfl d_M_make_53 ?_
        refine lv_bipush (v := nI 12) hx hb d_M_make_56 (by decide) ?_
        refine lv_iload_n hx hb d_M_make_58 rfl (lv_at hl 1 rfl) ?_
        refine r_imulN hx hb d_M_make_59 ?_
        refine lv_iconst (v := nI 4) hx hb d_M_make_60 rfl ?_
        refine r_iaddN hx hb d_M_make_61 ?_
        refine r_iald hx hb hK hw 5 rfl (by omega) (by omega) d_M_make_62 ?_
        refine r_eq (show fr ((12 * wi) + 4) = nI w.2.length from hfr.n) ?_
        refine lv_iload hx hb d_M_make_63 (lv_at hl 4 rfl) ?_
        have Lp73 : ∀ (v : Nat), (v ≤ w.2.length ∧ w.2.length - v = (bsA w oc).length) → ∀ (H : Heap) (locs : List Loc) (ls : Array Slot), lv_has ls 10 [(0, .ref h0), (1, .int (nI wi)), (2, .int (nI nd)), (3, .int (nI ri)), (4, .int ci), (5, .int (nI mo))] → WW G A zs ([oM h0 [v0, .int (nI n), v2, v3, v4, v5, v6, v7, .ref qt, .ref qm, .ref qk, .ref qw, v12, v13, v14, v15, v16, v17, v18, v19, v20, v21, .ref qr, v23, v24, v25, v26, v27, v28, .ref qx, v30, v31, v32, v33], aI G qt 40 ft, aI G qm 40 fm, aI G qk 160 fk, aI G qw 160 fw, aI G qr 98304 fr, aI G qx 12 fx]) H locs → W zp zl ze R zs zm args below meth zc H locs 0 0 Q (F0 zm 73 ls [.int (nI v), .int (nI w.2.length)]) := by
          intro v hv H locs ls hl hw
          refine r_isubN hx hb (by omega) d_M_make_73 ?_
          refine lv_iload hx hb d_M_make_74 (lv_at hl 5 rfl) ?_
          refine r_iaddN hx hb d_M_make_76 ?_
          refine lv_bipush (v := nI 7) hx hb d_M_make_77 (by decide) ?_
          refine r_icmp_le (tgt := 84) hx hb (by omega) (by omega) d_M_make_79 (by decide) (fun c_79 => ?_) (fun c_79 => ?_)
          · skip
            have hle7 : (bsA w oc).length + (addsA n nd (sdA oc) sends).length ≤ 7 := by omega
            obtain ⟨w1, hw9⟩ := mkM_some (to := to) (n := n) (nd := nd) (w := w) (oc := oc) (sends := sends) hle7
            rw [hw9] at ho
            refine lv_iconst (v := nI 0) hx hb d_M_make_84 rfl ?_
            refine lv_istore (lv' := [(6, .int (nI 0)), (0, .ref h0), (1, .int (nI wi)), (2, .int (nI nd)), (3, .int (nI ri)), (4, .int ci), (5, .int (nI mo))]) hx hb d_M_make_85 hl (by decide) rfl (fun ls hl => ?_)
            have Lp87 : ∀ N_87 : Nat, ∀ (k : Nat) (fx : Nat → Int32), (k ≤ 4) → (∀ i, i < k → fx i = nI (dg w i)) → 4 - k < N_87 → ∀ (H : Heap) (locs : List Loc) (ls : Array Slot), lv_has ls 10 [(0, .ref h0), (1, .int (nI wi)), (2, .int (nI nd)), (3, .int (nI ri)), (4, .int ci), (6, .int (nI k))] → WW G A zs ([oM h0 [v0, .int (nI n), v2, v3, v4, v5, v6, v7, .ref qt, .ref qm, .ref qk, .ref qw, v12, v13, v14, v15, v16, v17, v18, v19, v20, v21, .ref qr, v23, v24, v25, v26, v27, v28, .ref qx, v30, v31, v32, v33], aI G qt 40 ft, aI G qm 40 fm, aI G qk 160 fk, aI G qw 160 fw, aI G qr 98304 fr, aI G qx 12 fx]) H locs → W zp zl ze R zs zm args below meth zc H locs 0 0 Q (F0 zm 87 ls []) := by
              intro N_87
              induction N_87 with
              | zero => intros; omega
              | succ N_87 ih_87 =>
                intro k fx hk3 hfx hN_87 H locs ls hl hw
                refine lv_iload hx hb d_M_make_87 (lv_at hl 5 rfl) ?_
                refine lv_iconst (v := nI 4) hx hb d_M_make_89 rfl ?_
                refine r_icmp_ge (tgt := 118) hx hb (by omega) (by omega) d_M_make_90 (by decide) (fun c_90 => ?_) (fun c_90 => ?_)
                · skip
                  refine lv_aload_n hx hb d_M_make_118 rfl (lv_at hl 0 rfl) ?_
                  refine g_M_61 hx hb hts hown hK hw 0 rfl rfl d_M_make_119 ?_
                  refine lv_iload_n hx hb d_M_make_122 rfl (lv_at hl 2 rfl) ?_
                  refine lv_aload_n hx hb d_M_make_123 rfl (lv_at hl 0 rfl) ?_
                  refine g_M_20 hx hb hts hown hK hw 0 rfl rfl d_M_make_124 ?_
                  refine lv_iload_n hx hb d_M_make_127 rfl (lv_at hl 3 rfl) ?_
                  refine r_iald hx hb hK hw 1 rfl (by omega) (by omega) d_M_make_128 ?_
                  refine r_eq (show ft ri = nI to from hft) ?_
                  refine r_iast hx hb hK hw 6 rfl (by omega) (by omega) d_M_make_129 (fun H locs hw1 => ?_)
                  replace hw : WW G A zs ([oM h0 [v0, .int (nI n), v2, v3, v4, v5, v6, v7, .ref qt, .ref qm, .ref qk, .ref qw, v12, v13, v14, v15, v16, v17, v18, v19, v20, v21, .ref qr, v23, v24, v25, v26, v27, v28, .ref qx, v30, v31, v32, v33], aI G qt 40 ft, aI G qm 40 fm, aI G qk 160 fk, aI G qw 160 fw, aI G qr 98304 fr, aI G qx 12 (upd fx nd (nI to))]) H locs := hw1
                  refine lv_aload_n hx hb d_M_make_130 rfl (lv_at hl 0 rfl) ?_
                  refine g_M_61 hx hb hts hown hK hw 0 rfl rfl d_M_make_131 ?_
                  refine lv_iconst (v := nI 4) hx hb d_M_make_134 rfl ?_
                  refine lv_iconst (v := nI 0) hx hb d_M_make_135 rfl ?_
                  refine r_iast hx hb hK hw 6 rfl (by omega) (by omega) d_M_make_136 (fun H locs hw1 => ?_)
                  replace hw : WW G A zs ([oM h0 [v0, .int (nI n), v2, v3, v4, v5, v6, v7, .ref qt, .ref qm, .ref qk, .ref qw, v12, v13, v14, v15, v16, v17, v18, v19, v20, v21, .ref qr, v23, v24, v25, v26, v27, v28, .ref qx, v30, v31, v32, v33], aI G qt 40 ft, aI G qm 40 fm, aI G qk 160 fk, aI G qw 160 fw, aI G qr 98304 fr, aI G qx 12 (upd (upd fx nd (nI to)) 4 (nI 0))]) H locs := hw1
                  refine lv_iload hx hb d_M_make_137 (lv_at hl 4 rfl) ?_
                  have Lp147 : ∀ (tk : Nat), (TK w oc 0 tk) → ∀ (H : Heap) (locs : List Loc) (ls : Array Slot), lv_has ls 10 [(0, .ref h0), (1, .int (nI wi)), (2, .int (nI nd)), (3, .int (nI ri)), (4, .int ci)] → WW G A zs ([oM h0 [v0, .int (nI n), v2, v3, v4, v5, v6, v7, .ref qt, .ref qm, .ref qk, .ref qw, v12, v13, v14, v15, v16, v17, v18, v19, v20, v21, .ref qr, v23, v24, v25, v26, v27, v28, .ref qx, v30, v31, v32, v33], aI G qt 40 ft, aI G qm 40 fm, aI G qk 160 fk, aI G qw 160 fw, aI G qr 98304 fr, aI G qx 12 (upd (upd fx nd (nI to)) 4 (nI 0))]) H locs → W zp zl ze R zs zm args below meth zc H locs 0 0 Q (F0 zm 147 ls [.int (nI tk)]) := by
                    intro tk htk H locs ls hl hw
                    refine lv_istore (lv' := [(6, .int (nI tk)), (0, .ref h0), (1, .int (nI wi)), (2, .int (nI nd)), (3, .int (nI ri)), (4, .int ci)]) hx hb d_M_make_147 hl (by decide) rfl (fun ls hl => ?_)
                    refine lv_iconst (v := nI 0) hx hb d_M_make_149 rfl ?_
                    refine lv_istore (lv' := [(7, .int (nI 0)), (6, .int (nI tk)), (0, .ref h0), (1, .int (nI wi)), (2, .int (nI nd)), (3, .int (nI ri)), (4, .int ci)]) hx hb d_M_make_150 hl (by decide) rfl (fun ls hl => ?_)
                    have Lp152 : ∀ N_152 : Nat, ∀ (k : Nat) (tk : Nat) (fx : Nat → Int32), (k ≤ w.2.length) → (TK w oc k tk) → (RowP fx (w.1.set nd to) (bsT (w.2.take k) oc)) → w.2.length - k < N_152 → ∀ (H : Heap) (locs : List Loc) (ls : Array Slot), lv_has ls 10 [(0, .ref h0), (1, .int (nI wi)), (2, .int (nI nd)), (3, .int (nI ri)), (4, .int ci), (6, .int (nI tk)), (7, .int (nI k))] → WW G A zs ([oM h0 [v0, .int (nI n), v2, v3, v4, v5, v6, v7, .ref qt, .ref qm, .ref qk, .ref qw, v12, v13, v14, v15, v16, v17, v18, v19, v20, v21, .ref qr, v23, v24, v25, v26, v27, v28, .ref qx, v30, v31, v32, v33], aI G qt 40 ft, aI G qm 40 fm, aI G qk 160 fk, aI G qw 160 fw, aI G qr 98304 fr, aI G qx 12 fx]) H locs → W zp zl ze R zs zm args below meth zc H locs 0 0 Q (F0 zm 152 ls []) := by
                      intro N_152
                      induction N_152 with
                      | zero => intros; omega
                      | succ N_152 ih_152 =>
                        intro k tk fx hk4 htk2 hrp hN_152 H locs ls hl hw
                        have hbl := bsT_len (w := w) (oc := oc) (k := k)
                        refine lv_iload hx hb d_M_make_152 (lv_at hl 6 rfl) ?_
                        refine lv_aload_n hx hb d_M_make_154 rfl (lv_at hl 0 rfl) ?_
                        refine g_M_40 hx hb hts hown hK hw 0 rfl rfl d_M_make_155 ?_
                        refine lv_bipush (v := nI 12) hx hb d_M_make_158 (by decide) ?_
                        refine lv_iload_n hx hb d_M_make_160 rfl (lv_at hl 1 rfl) ?_
                        refine r_imulN hx hb d_M_make_161 ?_
                        refine lv_iconst (v := nI 4) hx hb d_M_make_162 rfl ?_
                        refine r_iaddN hx hb d_M_make_163 ?_
                        refine r_iald hx hb hK hw 5 rfl (by omega) (by omega) d_M_make_164 ?_
                        refine r_eq (show fr ((12 * wi) + 4) = nI w.2.length from hfr.n) ?_
                        refine r_icmp_ge (tgt := 218) hx hb (by omega) (by omega) d_M_make_165 (by decide) (fun c_165 => ?_) (fun c_165 => ?_)
                        · skip
                          refine lv_iconst (v := nI 0) hx hb d_M_make_218 rfl ?_
                          refine lv_istore (lv' := [(7, .int (nI 0)), (0, .ref h0), (1, .int (nI wi)), (2, .int (nI nd)), (3, .int (nI ri)), (4, .int ci), (6, .int (nI tk))]) hx hb d_M_make_219 hl (by decide) rfl (fun ls hl => ?_)
                          have Lp221 : ∀ N_221 : Nat, ∀ (k : Nat) (fx : Nat → Int32), (k ≤ sends.length) → (RowP fx (w.1.set nd to) (mkAcc n nd (sdA oc) sends (bsA w oc) k 0)) → sends.length - k < N_221 → ∀ (H : Heap) (locs : List Loc) (ls : Array Slot), lv_has ls 10 [(0, .ref h0), (1, .int (nI wi)), (2, .int (nI nd)), (3, .int (nI ri)), (4, .int ci), (7, .int (nI k))] → WW G A zs ([oM h0 [v0, .int (nI n), v2, v3, v4, v5, v6, v7, .ref qt, .ref qm, .ref qk, .ref qw, v12, v13, v14, v15, v16, v17, v18, v19, v20, v21, .ref qr, v23, v24, v25, v26, v27, v28, .ref qx, v30, v31, v32, v33], aI G qt 40 ft, aI G qm 40 fm, aI G qk 160 fk, aI G qw 160 fw, aI G qr 98304 fr, aI G qx 12 fx]) H locs → W zp zl ze R zs zm args below meth zc H locs 0 0 Q (F0 zm 221 ls []) := by
                            intro N_221
                            induction N_221 with
                            | zero => intros; omega
                            | succ N_221 ih_221 =>
                              intro k fx hk5 hrp2 hN_221 H locs ls hl hw
                              refine lv_iload hx hb d_M_make_221 (lv_at hl 5 rfl) ?_
                              refine lv_aload_n hx hb d_M_make_223 rfl (lv_at hl 0 rfl) ?_
                              refine g_M_23 hx hb hts hown hK hw 0 rfl rfl d_M_make_224 ?_
                              refine lv_iload_n hx hb d_M_make_227 rfl (lv_at hl 3 rfl) ?_
                              refine r_iald hx hb hK hw 2 rfl (by omega) (by omega) d_M_make_228 ?_
                              refine r_eq (show fm ri = nI sends.length from hfm) ?_
                              refine r_icmp_ge (tgt := 341) hx hb (by omega) (by omega) d_M_make_229 (by decide) (fun c_229 => ?_) (fun c_229 => ?_)
                              · skip
                                refine lv_iconst (v := nI 1) hx hb d_M_make_341 rfl ?_
                                exact r_ret hQ (r_zret _ hx hb hr hlk hw (⟨fun w2 z => ⟨rfl, mkM_fin hw9 (ho.trans z) (by omega) hle7 hrp2⟩, fun z => absurd (ho.trans z) (by intro q; cases q)⟩) (by decide) (by omega) (by omega) d_M_make_342)
                              · skip
                                have hsl := sends_lt hS c_229
                                have hal0 := acc_le (n := n) (nd := nd) (sd := (sdA oc)) (base := bsA w oc) (t := 0) c_229 (Nat.zero_le _)
                                refine lv_bipush (v := nI 16) hx hb d_M_make_232 (by decide) ?_
                                refine lv_aload_n hx hb d_M_make_234 rfl (lv_at hl 0 rfl) ?_
                                refine g_M_26 hx hb hts hown hK hw 0 rfl rfl d_M_make_235 ?_
                                refine lv_iconst (v := nI 4) hx hb d_M_make_238 rfl ?_
                                refine lv_iload_n hx hb d_M_make_239 rfl (lv_at hl 3 rfl) ?_
                                refine r_imulN hx hb d_M_make_240 ?_
                                refine lv_iload hx hb d_M_make_241 (lv_at hl 5 rfl) ?_
                                refine r_iaddN hx hb d_M_make_243 ?_
                                refine r_iald hx hb hK hw 3 rfl (by omega) (by omega) d_M_make_244 ?_
                                refine r_eq (show fk ((4 * ri) + k) = nI ((sends.getD k (0, 0)).1) from (hfk k c_229).1) ?_
                                refine r_imulN hx hb d_M_make_245 ?_
                                refine lv_iconst (v := nI 4) hx hb d_M_make_246 rfl ?_
                                refine lv_iload_n hx hb d_M_make_247 rfl (lv_at hl 2 rfl) ?_
                                refine r_imulN hx hb d_M_make_248 ?_
                                refine r_iaddN hx hb d_M_make_249 ?_
                                refine lv_istore (lv' := [(8, .int (nI ((16 * ((sends.getD k (0, 0)).1)) + (4 * nd)))), (0, .ref h0), (1, .int (nI wi)), (2, .int (nI nd)), (3, .int (nI ri)), (4, .int ci), (7, .int (nI k))]) hx hb d_M_make_250 hl (by decide) rfl (fun ls hl => ?_)
                                refine lv_aload_n hx hb d_M_make_252 rfl (lv_at hl 1 rfl) ?_
                                refine g_M_29 hx hb hts hown hK hw 0 rfl rfl d_M_make_253 ?_
                                refine lv_iconst (v := nI 4) hx hb d_M_make_256 rfl ?_
                                refine lv_iload_n hx hb d_M_make_257 rfl (lv_at hl 4 rfl) ?_
                                refine r_imulN hx hb d_M_make_258 ?_
                                refine lv_iload hx hb d_M_make_259 (lv_at hl 6 rfl) ?_
                                refine r_iaddN hx hb d_M_make_261 ?_
                                refine r_iald hx hb hK hw 4 rfl (by omega) (by omega) d_M_make_262 ?_
                                refine r_eq (show fw ((4 * ri) + k) = nI ((sends.getD k (0, 0)).2) from (hfk k c_229).2) ?_
                                refine r_if_ne (tgt := 283) hx hb (by omega) d_M_make_263 (by decide) (fun c_263 => ?_) (fun c_263 => ?_)
                                · skip
                                  refine lv_iconst (v := nI 0) hx hb d_M_make_283 rfl ?_
                                  refine lv_istore (lv' := [(9, .int (nI 0)), (8, .int (nI ((16 * ((sends.getD k (0, 0)).1)) + (4 * nd)))), (0, .ref h0), (1, .int (nI wi)), (2, .int (nI nd)), (3, .int (nI ri)), (4, .int ci), (7, .int (nI k))]) hx hb d_M_make_284 hl (by decide) rfl (fun ls hl => ?_)
                                  have Lp286 : ∀ N_286 : Nat, ∀ (t : Nat) (fx : Nat → Int32), (t ≤ n) → (RowP fx (w.1.set nd to) (mkAcc n nd (sdA oc) sends (bsA w oc) k (if (sends.getD k (0, 0)).2 = 1 then t else n))) → n - t < N_286 → ∀ (H : Heap) (locs : List Loc) (ls : Array Slot), lv_has ls 10 [(0, .ref h0), (1, .int (nI wi)), (2, .int (nI nd)), (3, .int (nI ri)), (4, .int ci), (7, .int (nI k)), (8, .int (nI (16 * (sends.getD k (0, 0)).1 + 4 * nd))), (9, .int (nI t))] → WW G A zs ([oM h0 [v0, .int (nI n), v2, v3, v4, v5, v6, v7, .ref qt, .ref qm, .ref qk, .ref qw, v12, v13, v14, v15, v16, v17, v18, v19, v20, v21, .ref qr, v23, v24, v25, v26, v27, v28, .ref qx, v30, v31, v32, v33], aI G qt 40 ft, aI G qm 40 fm, aI G qk 160 fk, aI G qw 160 fw, aI G qr 98304 fr, aI G qx 12 fx]) H locs → W zp zl ze R zs zm args below meth zc H locs 0 0 Q (F0 zm 286 ls []) := by
                                    intro N_286
                                    induction N_286 with
                                    | zero => intros; omega
                                    | succ N_286 ih_286 =>
                                      intro t fx ht hrp3 hN_286 H locs ls hl hw
                                      refine lv_iload hx hb d_M_make_286 (lv_at hl 7 rfl) ?_
                                      refine lv_aload_n hx hb d_M_make_288 rfl (lv_at hl 0 rfl) ?_
                                      refine g_M_70 hx hb hts hown hK hw 0 rfl rfl d_M_make_289 ?_
                                      refine r_icmp_ge (tgt := 335) hx hb (by omega) (by omega) d_M_make_292 (by decide) (fun c_292 => ?_) (fun c_292 => ?_)
                                      · skip
                                        refine r_iincN (n := 1) (lv' := [(7, .int (nI (k + 1))), (0, .ref h0), (1, .int (nI wi)), (2, .int (nI nd)), (3, .int (nI ri)), (4, .int ci), (8, .int (nI (16 * (sends.getD k (0, 0)).1 + 4 * nd))), (9, .int (nI t))]) hx hb d_M_make_335 hl (k := 5) rfl (by decide) rfl (fun ls hl => ?_)
                                        refine lv_goto (tgt := 221) hx hb d_M_make_338 (by decide) ?_
                                        exact ih_221 (k + 1) fx (by omega) (by rw [← acc_next c_229]; exact mkM_t hrp3 (fun _ => (by omega))) (by omega) _ _ _ (lv_sub hl [1, 2, 3, 4, 5, 0] rfl) hw
                                      · skip
                                        refine lv_aload_n hx hb d_M_make_295 rfl (lv_at hl 0 rfl) ?_
                                        refine g_M_29 hx hb hts hown hK hw 0 rfl rfl d_M_make_296 ?_
                                        refine lv_iconst (v := nI 4) hx hb d_M_make_299 rfl ?_
                                        refine lv_iload_n hx hb d_M_make_300 rfl (lv_at hl 3 rfl) ?_
                                        refine r_imulN hx hb d_M_make_301 ?_
                                        refine lv_iload hx hb d_M_make_302 (lv_at hl 5 rfl) ?_
                                        refine r_iaddN hx hb d_M_make_304 ?_
                                        refine r_iald hx hb hK hw 4 rfl (by omega) (by omega) d_M_make_305 ?_
                                        refine r_eq (show fw ((4 * ri) + k) = nI ((sends.getD k (0, 0)).2) from (hfk k c_229).2) ?_
                                        refine lv_iconst (v := nI 1) hx hb d_M_make_306 rfl ?_
                                        refine r_icmp_ne (tgt := 335) hx hb (by omega) (by omega) d_M_make_307 (by decide) (fun c_307 => ?_) (fun c_307 => ?_)
                                        · skip
                                          refine r_iincN (n := 1) (lv' := [(7, .int (nI (k + 1))), (0, .ref h0), (1, .int (nI wi)), (2, .int (nI nd)), (3, .int (nI ri)), (4, .int ci), (8, .int (nI (16 * (sends.getD k (0, 0)).1 + 4 * nd))), (9, .int (nI t))]) hx hb d_M_make_335 hl (k := 5) rfl (by decide) rfl (fun ls hl => ?_)
                                          refine lv_goto (tgt := 221) hx hb d_M_make_338 (by decide) ?_
                                          exact ih_221 (k + 1) fx (by omega) (by rw [← acc_next c_229]; exact mkM_t hrp3 (fun _ => (by omega))) (by omega) _ _ _ (lv_sub hl [1, 2, 3, 4, 5, 0] rfl) hw
                                        · skip
                                          refine lv_iload hx hb d_M_make_310 (lv_at hl 7 rfl) ?_
                                          refine lv_iload_n hx hb d_M_make_312 rfl (lv_at hl 2 rfl) ?_
                                          refine r_icmp_eq (tgt := 329) hx hb (by omega) (by omega) d_M_make_313 (by decide) (fun c_313 => ?_) (fun c_313 => ?_)
                                          · skip
                                            refine r_iincN (n := 1) (lv' := [(9, .int (nI (t + 1))), (0, .ref h0), (1, .int (nI wi)), (2, .int (nI nd)), (3, .int (nI ri)), (4, .int ci), (7, .int (nI k)), (8, .int (nI (16 * (sends.getD k (0, 0)).1 + 4 * nd)))]) hx hb d_M_make_329 hl (k := 7) rfl (by decide) rfl (fun ls hl => ?_)
                                            refine lv_goto (tgt := 286) hx hb d_M_make_332 (by decide) ?_
                                            exact ih_286 (t + 1) fx (by omega) (by rw [if_pos c_307] at hrp3 ⊢; rw [acc_skip (mkM_is0 (by omega) c_313)]; exact hrp3) (by omega) _ _ _ (lv_sub hl [1, 2, 3, 4, 5, 6, 7, 0] rfl) hw
                                          · skip
                                            have hal2 := acc_le (n := n) (nd := nd) (sd := (sdA oc)) (base := bsA w oc) (t := t + 1) c_229 (by omega)
                                            rw [acc_add (mkM_is1 (by omega) c_313), ins_len] at hal2
                                            refine lv_aload_n hx hb d_M_make_316 rfl (lv_at hl 0 rfl) ?_
                                            refine lv_aload_n hx hb d_M_make_317 rfl (lv_at hl 0 rfl) ?_
                                            refine g_M_61 hx hb hts hown hK hw 0 rfl rfl d_M_make_318 ?_
                                            refine lv_iload hx hb d_M_make_321 (lv_at hl 6 rfl) ?_
                                            refine lv_iload hx hb d_M_make_323 (lv_at hl 7 rfl) ?_
                                            refine r_iaddN hx hb d_M_make_325 ?_
                                            rw [if_pos c_307] at hrp3
                                            refine xV_v (rest := []) (As := [.ref qx, .int (nI ((16 * (sends.getD k (0, 0)).1 + 4 * nd) + t))]) hx hb hml hown hts hK hA hw k_M_120 (c_M_add zl G h0 qx (16 * (sends.getD k (0, 0)).1 + 4 * nd + t) [v0, .int (nI n), v2, v3, v4, v5, v6, v7, .ref qt, .ref qm, .ref qk, .ref qw, v12, v13, v14, v15, v16, v17, v18, v19, v20, v21, .ref qr, v23, v24, v25, v26, v27, v28, .ref qx, v30, v31, v32, v33] fx (mkAcc n nd (sdA oc) sends (bsA w oc) k t) (acc_srt hbsrt) (by omega) (acc_cb hbcb (fun s hs9 => (hS s hs9).1) (by omega) hn4 (by omega)) (by omega) hrp3.2.1 hrp3.2.2) ([0, 6]) rfl rfl (fun _ => Nat.le_of_ble_eq_true rfl) 0 rfl rfl rfl rfl hl.1 (Nat.le_of_ble_eq_true rfl) ⟨(by omega), (by omega)⟩ ⟨(by omega), (by omega)⟩ d_M_make_326 (fun _ g2 H locs hp hw1 => ?_)
                                            refine W.cs (cells' := 0) (slots' := 0) rfl rfl ?_
                                            replace hw : WW G A zs ([oM h0 [v0, .int (nI n), v2, v3, v4, v5, v6, v7, .ref qt, .ref qm, .ref qk, .ref qw, v12, v13, v14, v15, v16, v17, v18, v19, v20, v21, .ref qr, v23, v24, v25, v26, v27, v28, .ref qx, v30, v31, v32, v33], aI G qt 40 ft, aI G qm 40 fm, aI G qk 160 fk, aI G qw 160 fw, aI G qr 98304 fr, aI G qx 12 g2]) H locs := hw1
                                            refine r_iincN (n := 1) (lv' := [(9, .int (nI (t + 1))), (0, .ref h0), (1, .int (nI wi)), (2, .int (nI nd)), (3, .int (nI ri)), (4, .int ci), (7, .int (nI k)), (8, .int (nI (16 * (sends.getD k (0, 0)).1 + 4 * nd)))]) hx hb d_M_make_329 hl (k := 7) rfl (by decide) rfl (fun ls hl => ?_)
                                            refine lv_goto (tgt := 286) hx hb d_M_make_332 (by decide) ?_
                                            exact ih_286 (t + 1) g2 (by omega) (by rw [if_pos c_307]; rw [acc_add (mkM_is1 (by omega) c_313)]; exact hrp3.add hp) (by omega) _ _ _ (lv_sub hl [1, 2, 3, 4, 5, 6, 7, 0] rfl) hw
                                  exact Lp286 _ 0 fx (by omega) (by rw [if_pos (show (sends.getD k (0, 0)).2 = 1 by omega)]; exact hrp2) (Nat.lt_succ_self _) _ _ _ (lv_sub hl [2, 3, 4, 5, 6, 7, 1, 0] rfl) hw
                                · skip
                                  have hsd9 := mkM_sd hV hoc (mkM_no hno c_229 c_263)
                                  obtain ⟨c9, hc9, hci9⟩ := mkM_oc hci (mkM_no hno c_229 c_263)
                                  have hal1 := acc_le (n := n) (nd := nd) (sd := (sdA oc)) (base := bsA w oc) (t := n) c_229 (Nat.le_refl _)
                                  rw [acc_one c_263 hsd9, ins_len] at hal1
                                  have hc96 := hb96 c9 (hoc c9 hc9)
                                  have hsdc : sdA oc = c9 / 4 % 4 := by rw [hc9]; rfl
                                  refine lv_aload_n hx hb d_M_make_266 rfl (lv_at hl 1 rfl) ?_
                                  refine lv_aload_n hx hb d_M_make_267 rfl (lv_at hl 1 rfl) ?_
                                  refine g_M_61 hx hb hts hown hK hw 0 rfl rfl d_M_make_268 ?_
                                  refine lv_iload hx hb d_M_make_271 (lv_at hl 0 rfl) ?_
                                  refine lv_iload hx hb d_M_make_273 (lv_at hl 5 rfl) ?_
                                  refine r_eq (show ci = nI c9 from hci9) ?_
                                  refine lv_iconst (v := nI 4) hx hb d_M_make_275 rfl ?_
                                  refine r_idivN hx hb (by omega) (by omega) (by omega) d_M_make_276 ?_
                                  refine lv_iconst (v := nI 4) hx hb d_M_make_277 rfl ?_
                                  refine r_iremN hx hb (by omega) (by omega) (by omega) d_M_make_278 ?_
                                  refine r_iaddN hx hb d_M_make_279 ?_
                                  refine r_eq (show nI (((16 * ((sends.getD k (0, 0)).1)) + (4 * nd)) + ((c9 / 4) % 4)) = nI (16 * (sends.getD k (0, 0)).1 + 4 * nd + sdA oc) from congrArg nI (by omega)) ?_
                                  refine xV_v (rest := []) (As := [.ref qx, .int (nI (16 * (sends.getD k (0, 0)).1 + 4 * nd + sdA oc))]) hx hb hml hown hts hK hA hw k_M_120 (c_M_add zl G h0 qx (16 * (sends.getD k (0, 0)).1 + 4 * nd + sdA oc) [v0, .int (nI n), v2, v3, v4, v5, v6, v7, .ref qt, .ref qm, .ref qk, .ref qw, v12, v13, v14, v15, v16, v17, v18, v19, v20, v21, .ref qr, v23, v24, v25, v26, v27, v28, .ref qx, v30, v31, v32, v33] fx (mkAcc n nd (sdA oc) sends (bsA w oc) k 0) (acc_srt hbsrt) (by omega) (acc_cb hbcb (fun s hs9 => (hS s hs9).1) (by omega) hn4 (by omega)) (by omega) hrp2.2.1 hrp2.2.2) ([0, 6]) rfl rfl (fun _ => Nat.le_of_ble_eq_true rfl) 0 rfl rfl rfl rfl hl.1 (Nat.le_of_ble_eq_true rfl) ⟨(by omega), (by omega)⟩ ⟨(by omega), (by omega)⟩ d_M_make_280 (fun _ g2 H locs hp hw1 => ?_)
                                  refine W.cs (cells' := 0) (slots' := 0) rfl rfl ?_
                                  replace hw : WW G A zs ([oM h0 [v0, .int (nI n), v2, v3, v4, v5, v6, v7, .ref qt, .ref qm, .ref qk, .ref qw, v12, v13, v14, v15, v16, v17, v18, v19, v20, v21, .ref qr, v23, v24, v25, v26, v27, v28, .ref qx, v30, v31, v32, v33], aI G qt 40 ft, aI G qm 40 fm, aI G qk 160 fk, aI G qw 160 fw, aI G qr 98304 fr, aI G qx 12 g2]) H locs := hw1
                                  refine lv_iconst (v := nI 0) hx hb d_M_make_283 rfl ?_
                                  refine lv_istore (lv' := [(9, .int (nI 0)), (8, .int (nI ((16 * ((sends.getD k (0, 0)).1)) + (4 * nd)))), (0, .ref h0), (1, .int (nI wi)), (2, .int (nI nd)), (3, .int (nI ri)), (4, .int ci), (7, .int (nI k))]) hx hb d_M_make_284 hl (by decide) rfl (fun ls hl => ?_)
                                  have Lp286 : ∀ N_286 : Nat, ∀ (t : Nat) (fx : Nat → Int32), (t ≤ n) → (RowP fx (w.1.set nd to) (mkAcc n nd (sdA oc) sends (bsA w oc) k (if (sends.getD k (0, 0)).2 = 1 then t else n))) → n - t < N_286 → ∀ (H : Heap) (locs : List Loc) (ls : Array Slot), lv_has ls 10 [(0, .ref h0), (1, .int (nI wi)), (2, .int (nI nd)), (3, .int (nI ri)), (4, .int ci), (7, .int (nI k)), (8, .int (nI (16 * (sends.getD k (0, 0)).1 + 4 * nd))), (9, .int (nI t))] → WW G A zs ([oM h0 [v0, .int (nI n), v2, v3, v4, v5, v6, v7, .ref qt, .ref qm, .ref qk, .ref qw, v12, v13, v14, v15, v16, v17, v18, v19, v20, v21, .ref qr, v23, v24, v25, v26, v27, v28, .ref qx, v30, v31, v32, v33], aI G qt 40 ft, aI G qm 40 fm, aI G qk 160 fk, aI G qw 160 fw, aI G qr 98304 fr, aI G qx 12 fx]) H locs → W zp zl ze R zs zm args below meth zc H locs 0 0 Q (F0 zm 286 ls []) := by
                                    intro N_286
                                    induction N_286 with
                                    | zero => intros; omega
                                    | succ N_286 ih_286 =>
                                      intro t fx ht hrp3 hN_286 H locs ls hl hw
                                      refine lv_iload hx hb d_M_make_286 (lv_at hl 7 rfl) ?_
                                      refine lv_aload_n hx hb d_M_make_288 rfl (lv_at hl 0 rfl) ?_
                                      refine g_M_70 hx hb hts hown hK hw 0 rfl rfl d_M_make_289 ?_
                                      refine r_icmp_ge (tgt := 335) hx hb (by omega) (by omega) d_M_make_292 (by decide) (fun c_292 => ?_) (fun c_292 => ?_)
                                      · skip
                                        refine r_iincN (n := 1) (lv' := [(7, .int (nI (k + 1))), (0, .ref h0), (1, .int (nI wi)), (2, .int (nI nd)), (3, .int (nI ri)), (4, .int ci), (8, .int (nI (16 * (sends.getD k (0, 0)).1 + 4 * nd))), (9, .int (nI t))]) hx hb d_M_make_335 hl (k := 5) rfl (by decide) rfl (fun ls hl => ?_)
                                        refine lv_goto (tgt := 221) hx hb d_M_make_338 (by decide) ?_
                                        exact ih_221 (k + 1) fx (by omega) (by rw [← acc_next c_229]; exact mkM_t hrp3 (fun _ => (by omega))) (by omega) _ _ _ (lv_sub hl [1, 2, 3, 4, 5, 0] rfl) hw
                                      · skip
                                        refine lv_aload_n hx hb d_M_make_295 rfl (lv_at hl 0 rfl) ?_
                                        refine g_M_29 hx hb hts hown hK hw 0 rfl rfl d_M_make_296 ?_
                                        refine lv_iconst (v := nI 4) hx hb d_M_make_299 rfl ?_
                                        refine lv_iload_n hx hb d_M_make_300 rfl (lv_at hl 3 rfl) ?_
                                        refine r_imulN hx hb d_M_make_301 ?_
                                        refine lv_iload hx hb d_M_make_302 (lv_at hl 5 rfl) ?_
                                        refine r_iaddN hx hb d_M_make_304 ?_
                                        refine r_iald hx hb hK hw 4 rfl (by omega) (by omega) d_M_make_305 ?_
                                        refine r_eq (show fw ((4 * ri) + k) = nI ((sends.getD k (0, 0)).2) from (hfk k c_229).2) ?_
                                        refine lv_iconst (v := nI 1) hx hb d_M_make_306 rfl ?_
                                        refine r_icmp_ne (tgt := 335) hx hb (by omega) (by omega) d_M_make_307 (by decide) (fun c_307 => ?_) (fun c_307 => ?_)
                                        · skip
                                          refine r_iincN (n := 1) (lv' := [(7, .int (nI (k + 1))), (0, .ref h0), (1, .int (nI wi)), (2, .int (nI nd)), (3, .int (nI ri)), (4, .int ci), (8, .int (nI (16 * (sends.getD k (0, 0)).1 + 4 * nd))), (9, .int (nI t))]) hx hb d_M_make_335 hl (k := 5) rfl (by decide) rfl (fun ls hl => ?_)
                                          refine lv_goto (tgt := 221) hx hb d_M_make_338 (by decide) ?_
                                          exact ih_221 (k + 1) fx (by omega) (by rw [← acc_next c_229]; exact mkM_t hrp3 (fun _ => (by omega))) (by omega) _ _ _ (lv_sub hl [1, 2, 3, 4, 5, 0] rfl) hw
                                        · skip
                                          refine lv_iload hx hb d_M_make_310 (lv_at hl 7 rfl) ?_
                                          refine lv_iload_n hx hb d_M_make_312 rfl (lv_at hl 2 rfl) ?_
                                          refine r_icmp_eq (tgt := 329) hx hb (by omega) (by omega) d_M_make_313 (by decide) (fun c_313 => ?_) (fun c_313 => ?_)
                                          · skip
                                            refine r_iincN (n := 1) (lv' := [(9, .int (nI (t + 1))), (0, .ref h0), (1, .int (nI wi)), (2, .int (nI nd)), (3, .int (nI ri)), (4, .int ci), (7, .int (nI k)), (8, .int (nI (16 * (sends.getD k (0, 0)).1 + 4 * nd)))]) hx hb d_M_make_329 hl (k := 7) rfl (by decide) rfl (fun ls hl => ?_)
                                            refine lv_goto (tgt := 286) hx hb d_M_make_332 (by decide) ?_
                                            exact ih_286 (t + 1) fx (by omega) (by rw [if_pos c_307] at hrp3 ⊢; rw [acc_skip (mkM_is0 (by omega) c_313)]; exact hrp3) (by omega) _ _ _ (lv_sub hl [1, 2, 3, 4, 5, 6, 7, 0] rfl) hw
                                          · skip
                                            have hal2 := acc_le (n := n) (nd := nd) (sd := (sdA oc)) (base := bsA w oc) (t := t + 1) c_229 (by omega)
                                            rw [acc_add (mkM_is1 (by omega) c_313), ins_len] at hal2
                                            refine lv_aload_n hx hb d_M_make_316 rfl (lv_at hl 0 rfl) ?_
                                            refine lv_aload_n hx hb d_M_make_317 rfl (lv_at hl 0 rfl) ?_
                                            refine g_M_61 hx hb hts hown hK hw 0 rfl rfl d_M_make_318 ?_
                                            refine lv_iload hx hb d_M_make_321 (lv_at hl 6 rfl) ?_
                                            refine lv_iload hx hb d_M_make_323 (lv_at hl 7 rfl) ?_
                                            refine r_iaddN hx hb d_M_make_325 ?_
                                            rw [if_pos c_307] at hrp3
                                            refine xV_v (rest := []) (As := [.ref qx, .int (nI ((16 * (sends.getD k (0, 0)).1 + 4 * nd) + t))]) hx hb hml hown hts hK hA hw k_M_120 (c_M_add zl G h0 qx (16 * (sends.getD k (0, 0)).1 + 4 * nd + t) [v0, .int (nI n), v2, v3, v4, v5, v6, v7, .ref qt, .ref qm, .ref qk, .ref qw, v12, v13, v14, v15, v16, v17, v18, v19, v20, v21, .ref qr, v23, v24, v25, v26, v27, v28, .ref qx, v30, v31, v32, v33] fx (mkAcc n nd (sdA oc) sends (bsA w oc) k t) (acc_srt hbsrt) (by omega) (acc_cb hbcb (fun s hs9 => (hS s hs9).1) (by omega) hn4 (by omega)) (by omega) hrp3.2.1 hrp3.2.2) ([0, 6]) rfl rfl (fun _ => Nat.le_of_ble_eq_true rfl) 0 rfl rfl rfl rfl hl.1 (Nat.le_of_ble_eq_true rfl) ⟨(by omega), (by omega)⟩ ⟨(by omega), (by omega)⟩ d_M_make_326 (fun _ g2 H locs hp hw1 => ?_)
                                            refine W.cs (cells' := 0) (slots' := 0) rfl rfl ?_
                                            replace hw : WW G A zs ([oM h0 [v0, .int (nI n), v2, v3, v4, v5, v6, v7, .ref qt, .ref qm, .ref qk, .ref qw, v12, v13, v14, v15, v16, v17, v18, v19, v20, v21, .ref qr, v23, v24, v25, v26, v27, v28, .ref qx, v30, v31, v32, v33], aI G qt 40 ft, aI G qm 40 fm, aI G qk 160 fk, aI G qw 160 fw, aI G qr 98304 fr, aI G qx 12 g2]) H locs := hw1
                                            refine r_iincN (n := 1) (lv' := [(9, .int (nI (t + 1))), (0, .ref h0), (1, .int (nI wi)), (2, .int (nI nd)), (3, .int (nI ri)), (4, .int ci), (7, .int (nI k)), (8, .int (nI (16 * (sends.getD k (0, 0)).1 + 4 * nd)))]) hx hb d_M_make_329 hl (k := 7) rfl (by decide) rfl (fun ls hl => ?_)
                                            refine lv_goto (tgt := 286) hx hb d_M_make_332 (by decide) ?_
                                            exact ih_286 (t + 1) g2 (by omega) (by rw [if_pos c_307]; rw [acc_add (mkM_is1 (by omega) c_313)]; exact hrp3.add hp) (by omega) _ _ _ (lv_sub hl [1, 2, 3, 4, 5, 6, 7, 0] rfl) hw
                                  exact Lp286 _ 0 g2 (by omega) (by rw [if_neg (show ¬ (sends.getD k (0, 0)).2 = 1 by omega), acc_one c_263 hsd9]; exact hrp2.add hp) (Nat.lt_succ_self _) _ _ _ (lv_sub hl [2, 3, 4, 5, 6, 7, 1, 0] rfl) hw
                          exact Lp221 _ 0 fx (by omega) (by rw [acc_0, ← bsT_all (k := k) (by omega)]; exact hrp) (Nat.lt_succ_self _) _ _ _ (lv_sub hl [1, 2, 3, 4, 5, 0] rfl) hw
                        · skip
                          have hcb9 := bsT_cb (w := w) (oc := oc) (k := k) hb96
                          have hck := hb96 _ (getD_mem' c_165)
                          have htk9 := htk2.le
                          refine lv_aload_n hx hb d_M_make_168 rfl (lv_at hl 0 rfl) ?_
                          refine g_M_40 hx hb hts hown hK hw 0 rfl rfl d_M_make_169 ?_
                          refine lv_bipush (v := nI 12) hx hb d_M_make_172 (by decide) ?_
                          refine lv_iload_n hx hb d_M_make_174 rfl (lv_at hl 1 rfl) ?_
                          refine r_imulN hx hb d_M_make_175 ?_
                          refine lv_iconst (v := nI 5) hx hb d_M_make_176 rfl ?_
                          refine r_iaddN hx hb d_M_make_177 ?_
                          refine lv_iload hx hb d_M_make_178 (lv_at hl 6 rfl) ?_
                          refine r_iaddN hx hb d_M_make_180 ?_
                          refine r_iald hx hb hK hw 5 rfl (by omega) (by omega) d_M_make_181 ?_
                          refine r_eq (show fr (((12 * wi) + 5) + k) = nI (w.2.getD k 0) from hfr.cd c_165) ?_
                          refine lv_istore (lv' := [(8, .int (nI (w.2.getD k 0))), (0, .ref h0), (1, .int (nI wi)), (2, .int (nI nd)), (3, .int (nI ri)), (4, .int ci), (6, .int (nI tk)), (7, .int (nI k))]) hx hb d_M_make_182 hl (by decide) rfl (fun ls hl => ?_)
                          refine lv_iload hx hb d_M_make_184 (lv_at hl 6 rfl) ?_
                          refine r_if_ne (tgt := 202) hx hb (by omega) d_M_make_186 (by decide) (fun c_186 => ?_) (fun c_186 => ?_)
                          · skip
                            refine lv_aload_n hx hb d_M_make_202 rfl (lv_at hl 1 rfl) ?_
                            refine lv_aload_n hx hb d_M_make_203 rfl (lv_at hl 1 rfl) ?_
                            refine g_M_61 hx hb hts hown hK hw 0 rfl rfl d_M_make_204 ?_
                            refine lv_iload hx hb d_M_make_207 (lv_at hl 0 rfl) ?_
                            refine xV_v (rest := []) (As := [.ref qx, .int (nI (w.2.getD k 0))]) hx hb hml hown hts hK hA hw k_M_120 (c_M_add zl G h0 qx (w.2.getD k 0) [v0, .int (nI n), v2, v3, v4, v5, v6, v7, .ref qt, .ref qm, .ref qk, .ref qw, v12, v13, v14, v15, v16, v17, v18, v19, v20, v21, .ref qr, v23, v24, v25, v26, v27, v28, .ref qx, v30, v31, v32, v33] fx (bsT (w.2.take k) oc) (bsT_srt hsw) (by omega) hcb9 hck hrp.2.1 hrp.2.2) ([0, 6]) rfl rfl (fun _ => Nat.le_of_ble_eq_true rfl) 0 rfl rfl rfl rfl hl.1 (Nat.le_of_ble_eq_true rfl) ⟨(by omega), (by omega)⟩ ⟨(by omega), (by omega)⟩ d_M_make_209 (fun _ g2 H locs hp hw1 => ?_)
                            refine W.cs (cells' := 0) (slots' := 0) rfl rfl ?_
                            replace hw : WW G A zs ([oM h0 [v0, .int (nI n), v2, v3, v4, v5, v6, v7, .ref qt, .ref qm, .ref qk, .ref qw, v12, v13, v14, v15, v16, v17, v18, v19, v20, v21, .ref qr, v23, v24, v25, v26, v27, v28, .ref qx, v30, v31, v32, v33], aI G qt 40 ft, aI G qm 40 fm, aI G qk 160 fk, aI G qw 160 fw, aI G qr 98304 fr, aI G qx 12 g2]) H locs := hw1
                            refine r_iincN (n := 1) (lv' := [(7, .int (nI (k + 1))), (8, .int (nI (w.2.getD k 0))), (0, .ref h0), (1, .int (nI wi)), (2, .int (nI nd)), (3, .int (nI ri)), (4, .int ci), (6, .int (nI tk))]) hx hb d_M_make_212 hl (k := 7) rfl (by decide) rfl (fun ls hl => ?_)
                            refine lv_goto (tgt := 152) hx hb d_M_make_215 (by decide) ?_
                            exact ih_152 (k + 1) tk g2 (by omega) (htk2.keep c_165 hsw hci (Or.inl c_186)).2 (by rw [(htk2.keep c_165 hsw hci (Or.inl c_186)).1]; exact hrp.add hp) (by omega) _ _ _ (lv_sub hl [2, 3, 4, 5, 6, 7, 0] rfl) hw
                          · skip
                            refine lv_iload hx hb d_M_make_189 (lv_at hl 0 rfl) ?_
                            refine lv_iload hx hb d_M_make_191 (lv_at hl 5 rfl) ?_
                            refine lv_icmp_ne (tgt := 202) hx hb d_M_make_193 (by decide) (fun c_193 => ?_) (fun c_193 => ?_)
                            · skip
                              refine lv_aload_n hx hb d_M_make_202 rfl (lv_at hl 1 rfl) ?_
                              refine lv_aload_n hx hb d_M_make_203 rfl (lv_at hl 1 rfl) ?_
                              refine g_M_61 hx hb hts hown hK hw 0 rfl rfl d_M_make_204 ?_
                              refine lv_iload hx hb d_M_make_207 (lv_at hl 0 rfl) ?_
                              refine xV_v (rest := []) (As := [.ref qx, .int (nI (w.2.getD k 0))]) hx hb hml hown hts hK hA hw k_M_120 (c_M_add zl G h0 qx (w.2.getD k 0) [v0, .int (nI n), v2, v3, v4, v5, v6, v7, .ref qt, .ref qm, .ref qk, .ref qw, v12, v13, v14, v15, v16, v17, v18, v19, v20, v21, .ref qr, v23, v24, v25, v26, v27, v28, .ref qx, v30, v31, v32, v33] fx (bsT (w.2.take k) oc) (bsT_srt hsw) (by omega) hcb9 hck hrp.2.1 hrp.2.2) ([0, 6]) rfl rfl (fun _ => Nat.le_of_ble_eq_true rfl) 0 rfl rfl rfl rfl hl.1 (Nat.le_of_ble_eq_true rfl) ⟨(by omega), (by omega)⟩ ⟨(by omega), (by omega)⟩ d_M_make_209 (fun _ g2 H locs hp hw1 => ?_)
                              refine W.cs (cells' := 0) (slots' := 0) rfl rfl ?_
                              replace hw : WW G A zs ([oM h0 [v0, .int (nI n), v2, v3, v4, v5, v6, v7, .ref qt, .ref qm, .ref qk, .ref qw, v12, v13, v14, v15, v16, v17, v18, v19, v20, v21, .ref qr, v23, v24, v25, v26, v27, v28, .ref qx, v30, v31, v32, v33], aI G qt 40 ft, aI G qm 40 fm, aI G qk 160 fk, aI G qw 160 fw, aI G qr 98304 fr, aI G qx 12 g2]) H locs := hw1
                              refine r_iincN (n := 1) (lv' := [(7, .int (nI (k + 1))), (8, .int (nI (w.2.getD k 0))), (0, .ref h0), (1, .int (nI wi)), (2, .int (nI nd)), (3, .int (nI ri)), (4, .int ci), (6, .int (nI tk))]) hx hb d_M_make_212 hl (k := 7) rfl (by decide) rfl (fun ls hl => ?_)
                              refine lv_goto (tgt := 152) hx hb d_M_make_215 (by decide) ?_
                              exact ih_152 (k + 1) tk g2 (by omega) (htk2.keep c_165 hsw hci (Or.inr c_193)).2 (by rw [(htk2.keep c_165 hsw hci (Or.inr c_193)).1]; exact hrp.add hp) (by omega) _ _ _ (lv_sub hl [2, 3, 4, 5, 6, 7, 0] rfl) hw
                            · skip
                              refine lv_iconst (v := nI 1) hx hb d_M_make_196 rfl ?_
                              refine lv_istore (lv' := [(6, .int (nI 1)), (8, .int (nI (w.2.getD k 0))), (0, .ref h0), (1, .int (nI wi)), (2, .int (nI nd)), (3, .int (nI ri)), (4, .int ci), (7, .int (nI k))]) hx hb d_M_make_197 hl (by decide) rfl (fun ls hl => ?_)
                              refine lv_goto (tgt := 212) hx hb d_M_make_199 (by decide) ?_
                              refine r_iincN (n := 1) (lv' := [(7, .int (nI (k + 1))), (6, .int (nI 1)), (8, .int (nI (w.2.getD k 0))), (0, .ref h0), (1, .int (nI wi)), (2, .int (nI nd)), (3, .int (nI ri)), (4, .int ci)]) hx hb d_M_make_212 hl (k := 7) rfl (by decide) rfl (fun ls hl => ?_)
                              refine lv_goto (tgt := 152) hx hb d_M_make_215 (by decide) ?_
                              exact ih_152 (k + 1) 1 fx (by omega) (htk2.hit c_186 c_165 hci c_193 hb96 hoc).2 (by rw [(htk2.hit c_186 c_165 hci c_193 hb96 hoc).1]; exact hrp) (by omega) _ _ _ (lv_sub hl [3, 4, 5, 6, 7, 1, 0] rfl) hw
                    exact Lp152 _ 0 tk (upd (upd fx nd (nI to)) 4 (nI 0)) (by omega) htk (mkM_z (RowP.ini (fun i hi => hfx i (by omega)) hV.1 (by omega))) (Nat.lt_succ_self _) _ _ _ (lv_sub hl [2, 3, 4, 5, 6, 1, 0] rfl) hw
                  refine lv_if_ge (tgt := 146) hx hb d_M_make_139 (by decide) (fun c_139 => ?_) (fun c_139 => ?_)
                  · skip
                    refine lv_iconst (v := nI 0) hx hb d_M_make_146 rfl ?_
                    exact Lp147 0 (mkM_tk0 hci c_139) _ _ _ (lv_sub hl [0, 1, 2, 3, 4] rfl) hw
                  · skip
                    refine lv_iconst (v := nI 1) hx hb d_M_make_142 rfl ?_
                    refine lv_goto (tgt := 147) hx hb d_M_make_143 (by decide) ?_
                    exact Lp147 1 (mkM_tk1 hci c_139 hoc hb96) _ _ _ (lv_sub hl [0, 1, 2, 3, 4] rfl) hw
                · skip
                  have hdk := hV.dg128 k
                  refine lv_aload_n hx hb d_M_make_93 rfl (lv_at hl 0 rfl) ?_
                  refine g_M_61 hx hb hts hown hK hw 0 rfl rfl d_M_make_94 ?_
                  refine lv_iload hx hb d_M_make_97 (lv_at hl 5 rfl) ?_
                  refine lv_aload_n hx hb d_M_make_99 rfl (lv_at hl 0 rfl) ?_
                  refine g_M_40 hx hb hts hown hK hw 0 rfl rfl d_M_make_100 ?_
                  refine lv_bipush (v := nI 12) hx hb d_M_make_103 (by decide) ?_
                  refine lv_iload_n hx hb d_M_make_105 rfl (lv_at hl 1 rfl) ?_
                  refine r_imulN hx hb d_M_make_106 ?_
                  refine lv_iload hx hb d_M_make_107 (lv_at hl 5 rfl) ?_
                  refine r_iaddN hx hb d_M_make_109 ?_
                  refine r_iald hx hb hK hw 5 rfl (by omega) (by omega) d_M_make_110 ?_
                  refine r_eq (show fr ((12 * wi) + k) = nI (dg w k) from hfr.st c_90) ?_
                  refine r_iast hx hb hK hw 6 rfl (by omega) (by omega) d_M_make_111 (fun H locs hw1 => ?_)
                  replace hw : WW G A zs ([oM h0 [v0, .int (nI n), v2, v3, v4, v5, v6, v7, .ref qt, .ref qm, .ref qk, .ref qw, v12, v13, v14, v15, v16, v17, v18, v19, v20, v21, .ref qr, v23, v24, v25, v26, v27, v28, .ref qx, v30, v31, v32, v33], aI G qt 40 ft, aI G qm 40 fm, aI G qk 160 fk, aI G qw 160 fw, aI G qr 98304 fr, aI G qx 12 (upd fx k (nI (dg w k)))]) H locs := hw1
                  refine r_iincN (n := 1) (lv' := [(6, .int (nI (k + 1))), (0, .ref h0), (1, .int (nI wi)), (2, .int (nI nd)), (3, .int (nI ri)), (4, .int ci)]) hx hb d_M_make_112 hl (k := 5) rfl (by decide) rfl (fun ls hl => ?_)
                  refine lv_goto (tgt := 87) hx hb d_M_make_115 (by decide) ?_
                  exact ih_87 (k + 1) (upd fx k (nI (dg w k))) (by omega) (upd_lt (g := fun i => nI (dg w i)) hfx rfl) (by omega) _ _ _ (lv_sub hl [1, 2, 3, 4, 5, 0] rfl) hw
            exact Lp87 _ 0 fx (by omega) (fun i hi => absurd hi (Nat.not_lt_zero _)) (Nat.lt_succ_self _) _ _ _ (lv_sub hl [1, 2, 3, 4, 5, 0] rfl) hw
          · skip
            refine lv_iconst (v := nI 0) hx hb d_M_make_82 rfl ?_
            exact r_ret hQ (r_zret _ hx hb hr hlk hw (⟨fun w1 z => absurd (ho.trans z) (by rw [mk_none (by omega)]; intro q; cases q), fun _ => rfl⟩) (by decide) (by omega) (by omega) d_M_make_83)
        refine lv_if_ge (tgt := 72) hx hb d_M_make_65 (by decide) (fun c_65 => ?_) (fun c_65 => ?_)
        · skip
          refine lv_iconst (v := nI 1) hx hb d_M_make_72 rfl ?_
          exact Lp73 1 (mkM_bs1 hci c_65 hoc) _ _ _ (lv_sub hl [0, 1, 2, 3, 4, 5] rfl) hw
        · skip
          refine lv_iconst (v := nI 0) hx hb d_M_make_68 rfl ?_
          refine lv_goto (tgt := 73) hx hb d_M_make_69 (by decide) ?_
          exact Lp73 0 ⟨Nat.zero_le _, (mkM_bs0 hci c_65 hoc hb96).symm⟩ _ _ _ (lv_sub hl [0, 1, 2, 3, 4, 5] rfl) hw
      · skip
        have hsl := sends_lt hS c_14
        refine lv_iload hx hb d_M_make_17 (lv_at hl 5 rfl) ?_
        refine lv_aload_n hx hb d_M_make_19 rfl (lv_at hl 0 rfl) ?_
        refine g_M_29 hx hb hts hown hK hw 0 rfl rfl d_M_make_20 ?_
        refine lv_iconst (v := nI 4) hx hb d_M_make_23 rfl ?_
        refine lv_iload_n hx hb d_M_make_24 rfl (lv_at hl 3 rfl) ?_
        refine r_imulN hx hb d_M_make_25 ?_
        refine lv_iload hx hb d_M_make_26 (lv_at hl 6 rfl) ?_
        refine r_iaddN hx hb d_M_make_28 ?_
        refine r_iald hx hb hK hw 4 rfl (by omega) (by omega) d_M_make_29 ?_
        refine r_eq (show fw ((4 * ri) + k) = nI ((sends.getD k (0, 0)).2) from (hfk k c_14).2) ?_
        have Lp43 : ∀ (v : Nat), (v = (addsT nd (sdA oc) (sends.getD k (0, 0)) n).length) → ∀ (H : Heap) (locs : List Loc) (ls : Array Slot), lv_has ls 10 [(0, .ref h0), (1, .int (nI wi)), (2, .int (nI nd)), (3, .int (nI ri)), (4, .int ci), (5, .int (nI mo)), (6, .int (nI k))] → WW G A zs ([oM h0 [v0, .int (nI n), v2, v3, v4, v5, v6, v7, .ref qt, .ref qm, .ref qk, .ref qw, v12, v13, v14, v15, v16, v17, v18, v19, v20, v21, .ref qr, v23, v24, v25, v26, v27, v28, .ref qx, v30, v31, v32, v33], aI G qt 40 ft, aI G qm 40 fm, aI G qk 160 fk, aI G qw 160 fw, aI G qr 98304 fr, aI G qx 12 fx]) H locs → W zp zl ze R zs zm args below meth zc H locs 0 0 Q (F0 zm 43 ls [.int (nI v), .int (nI mo)]) := by
          intro v hv H locs ls hl hw
          refine r_iaddN hx hb d_M_make_43 ?_
          refine lv_istore (lv' := [(5, .int (nI (mo + v))), (0, .ref h0), (1, .int (nI wi)), (2, .int (nI nd)), (3, .int (nI ri)), (4, .int ci), (6, .int (nI k))]) hx hb d_M_make_44 hl (by decide) rfl (fun ls hl => ?_)
          refine r_iincN (n := 1) (lv' := [(6, .int (nI (k + 1))), (5, .int (nI (mo + v))), (0, .ref h0), (1, .int (nI wi)), (2, .int (nI nd)), (3, .int (nI ri)), (4, .int ci)]) hx hb d_M_make_46 hl (k := 6) rfl (by decide) rfl (fun ls hl => ?_)
          refine lv_goto (tgt := 6) hx hb d_M_make_49 (by decide) ?_
          exact ih_6 (k + 1) (mo + v) (by omega) (by rw [more_s c_14, ← hmo, ← hv]) (by omega) _ _ _ (lv_sub hl [2, 3, 4, 5, 6, 1, 0] rfl) hw
        refine r_if_ne (tgt := 37) hx hb (by omega) d_M_make_30 (by decide) (fun c_30 => ?_) (fun c_30 => ?_)
        · skip
          refine lv_aload_n hx hb d_M_make_37 rfl (lv_at hl 0 rfl) ?_
          refine g_M_70 hx hb hts hown hK hw 0 rfl rfl d_M_make_38 ?_
          refine lv_iconst (v := nI 1) hx hb d_M_make_41 rfl ?_
          refine r_isubN hx hb (by omega) d_M_make_42 ?_
          exact Lp43 (n - 1) (addsT_1 c_30 hnd).symm _ _ _ (lv_sub hl [0, 1, 2, 3, 4, 5, 6] rfl) hw
        · skip
          refine lv_iconst (v := nI 1) hx hb d_M_make_33 rfl ?_
          refine lv_goto (tgt := 43) hx hb d_M_make_34 (by decide) ?_
          exact Lp43 1 (by rw [addsT_0 c_30 (mkM_sd hV hoc (mkM_no hno c_14 c_30))]; rfl) _ _ _ (lv_sub hl [0, 1, 2, 3, 4, 5, 6] rfl) hw
  exact Lp6 _ 0 0 (by omega) more_0.symm (Nat.lt_succ_self _) _ _ _ (lv_sub hl [2, 3, 4, 5, 6, 1, 0] rfl) hw
