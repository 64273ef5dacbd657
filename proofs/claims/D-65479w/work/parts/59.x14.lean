theorem Met.ofWF {l : Launch} {y : MethodName} {ws ws' : List Cond} {rm : Room} {Pc : Array Value → State → Prop} {Qc : Array Value → State → Outcome → State → Prop} {mc ms : Nat} {free : Addr → Prop} {cc : ByteArray} {maxL : Nat} {ret : Option FieldType}
    (hy : plainFor y = true) (hw : ws = Cond.code y cc maxL ret :: ws')
    (body : ∀ p e s m args below meth c s₁, BodyLoose p l y (headSpec ws rm) cc maxL ret e s m args below meth c s₁ → c.maxLocals = maxL → Pc args s →
      W p l e (headSpec ws rm).room s m args below meth c s.heap [] 0 0 (MQ below Qc args s mc ms free) (entryFrame m args maxL)) : Met l y ws rm Pc Qc mc ms free := by
  refine MetFree.of_bodySF (code := cc) (maxLocals := maxL) (ret := ret) hy ?_ ?_
  · intro args s m h hn
    obtain ⟨meth, c, h1, h2, h3, h4, h5, h6, -, -⟩ := Cond.code_spec hn (atoms_spec (ws := ws) h _ (by rw [hw]; exact List.mem_cons_self))
    exact ⟨meth, c, h1, h2, h3, h4, h5, h6⟩
  · intro p e s m args below meth c s₁ B hml hP _
    have hh0 : s₁.heap = s.heap := by rw [B.state]; rfl
    obtain ⟨t, a1, o, b1, b2, b3⟩ := body p e s m args below meth c s₁ B hml hP s₁ hh0 (Stand.of_body B)
    exact ⟨t, o, a1, b1, b2, ⟨b3.1, b3.2⟩⟩
theorem Ctr.startF {T S : Type} {ρ : T → Option Value} {l : Launch} {y : MethodName} {b : ByteArray} {nL : Nat} {ret : Option FieldType} {L mc ms : Nat} {G : GG} {av : List Value} {w0 : va_W} {post : T → S → Prop} {w1 : S → va_W}
    (hy : plainFor y = true) (hav : (lg_sl av).length ≤ nL)
    (body : ∀ (p : Program) (e : Env) (s : State) (m : MethodId) (below : List Frame) (meth : Method) (c : Code) (A : Nat → Prop) (ls : Array Slot),
      Cx p s m meth c b nL ret av.toArray y.cls → meth.name = y.name → KK G s → (∀ q, s.heap.size ≤ q → A q) → lv_has ls nL (lv_args 0 av) → WW G A s w0 s.heap [] →
      W p l e (rmL L mc ms) s m av.toArray below meth c s.heap [] 0 0 (MQ below (QQ ρ post w1 G A) av.toArray s mc ms A) (F0 m 0 ls [])) : Ctr ρ l y b nL ret L mc ms G av w0 post w1 := by
  intro sz
  refine Met.ofWF (cc := b) (maxL := nL) (ret := ret) hy rfl ?_
  intro p e s m args below meth c s₁ B hml hv
  obtain ⟨rfl, rfl, hP, hD0, hK⟩ := hv
  have hts := atoms_spec (ws := .code y b nL ret :: TT) B.pre
  have hown : s.vm.findClass y.cls = some m.cls := findClass_of_methodNamed B.named
  have hD := hD0.self (sz := s.heap.size)
  rw [lg_entry_eq]
  exact body p e s m below meth c _ _ ⟨B.exec, B.bytes, B.returns, B.notSynchronized, hml, hown, fun w hw => hts w (List.mem_cons_of_mem _ hw)⟩ (name_of_methodNamed B.named B.method).1 hK (fun q h => Or.inr h) (lv_entry av hav) ⟨hP, hD, va_S.rf⟩
set_option maxHeartbeats 4000000 in
set_option maxRecDepth 100000 in
theorem c_Math_floorMod (zl : Launch) (G : GG) (x : Int32) (K : Nat) (hK4 : K = 4 ∨ K = 8192) : Ctr (S := Unit) vI zl y_Math_floorMod b_Math_floorMod 3 (Option.some Jvm.ClassFile.FieldType.int) 0 0 0 G [.int x, .int (nI K)] ([]) (fun r _ => r = nI (x.toBitVec.toNat % K)) (fun _ => []) := by
  refine Ctr.startF (by decide +kernel) (Nat.le_of_ble_eq_true rfl) ?_
  intro zp ze zs zm below meth zc A ls C0 hin hK hA hl hw
  obtain ⟨hx, hb, hr, hlk, hml, hown, hts⟩ := C0
  obtain ⟨R, hRR⟩ : ∃ R : Room, R = rmL 0 0 0 := ⟨_, rfl⟩
  have hRf : R.frames = 0 := by rw [hRR]
  have hRl : R.locals = 64 * 0 := by rw [hRR]
  have hRc : R.cells = 0 := by rw [hRR]
  have hRs : R.slots = 0 := by rw [hRR]
  rw [← hRR]; clear hRR
  generalize hQ : MQ below _ _ zs _ _ A = Q
  generalize hAr : List.toArray _ = args at hts hQ ⊢
  replace hl : lv_has ls 3 [(0, .int x), (1, .int (nI K))] := hl
  obtain ⟨H, eH⟩ : ∃ H : Heap, H = zs.heap := ⟨_, rfl⟩
  obtain ⟨locs, eL⟩ : ∃ l0 : List Loc, l0 = [] := ⟨_, rfl⟩
  rw [← eH, ← eL] at hw ⊢; clear eH eL
  refine lv_iload_n hx hb d_Math_floorMod_0 rfl (lv_at hl 0 rfl) ?_
  refine lv_iload_n hx hb d_Math_floorMod_1 rfl (lv_at hl 1 rfl) ?_
  refine lv_irem hx hb d_Math_floorMod_2 (nI_ne0 (by omega) (by omega)) ?_
  refine lv_istore_n (lv' := [(2, .int (x - x / (nI K) * (nI K))), (0, .int x), (1, .int (nI K))]) hx hb d_Math_floorMod_3 rfl hl (by decide) rfl (fun ls hl => ?_)
  refine lv_iload_n hx hb d_Math_floorMod_4 rfl (lv_at hl 1 rfl) ?_
  refine lv_iload_n hx hb d_Math_floorMod_5 rfl (lv_at hl 2 rfl) ?_
  refine lv_ixor hx hb d_Math_floorMod_6 ?_
  refine lv_if_ge (tgt := 18) hx hb d_Math_floorMod_7 (by decide) (fun c_7 => ?_) (fun c_7 => ?_)
  · skip
    refine lv_iload_n hx hb d_Math_floorMod_18 rfl (lv_at hl 0 rfl) ?_
    exact r_ret hQ (r_iret () hx hb hr hlk hw (fm_p hK4 c_7) (by omega) (by omega) d_Math_floorMod_19)
  · skip
    refine lv_iload_n hx hb d_Math_floorMod_10 rfl (lv_at hl 0 rfl) ?_
    refine lv_if_eq (tgt := 18) hx hb d_Math_floorMod_11 (by decide) (fun c_11 => ?_) (fun c_11 => ?_)
    · skip
      refine lv_iload_n hx hb d_Math_floorMod_18 rfl (lv_at hl 0 rfl) ?_
      exact r_ret hQ (r_iret () hx hb hr hlk hw (fm_z hK4 c_11) (by omega) (by omega) d_Math_floorMod_19)
    · skip
      refine lv_iload_n hx hb d_Math_floorMod_14 rfl (lv_at hl 0 rfl) ?_
      refine lv_iload_n hx hb d_Math_floorMod_15 rfl (lv_at hl 2 rfl) ?_
      refine lv_iadd hx hb d_Math_floorMod_16 ?_
      exact r_ret hQ (r_iret () hx hb hr hlk hw (fm_n hK4 c_7 c_11) (by omega) (by omega) d_Math_floorMod_17)
set_option maxHeartbeats 4000000 in
set_option maxRecDepth 100000 in
theorem c_W_init (zl : Launch) (G : GG) (h0 : Nat) : Ctr (S := Nat × Nat) vV zl y_W_init b_W_init 1 (Option.none : Option Jvm.ClassFile.FieldType) 1 2 12 G [.ref h0] ([oW h0 [.null, .null, .int 0]]) (fun _ _ => True) (fun u => [oW h0 [.ref u.1, .ref u.2, .int 0], aI G u.1 4 (fun _ => 0), aI G u.2 8 (fun _ => 0)]) := by
  refine Ctr.start (by decide) (Nat.le_of_ble_eq_true rfl) ?_
  intro zp ze zs zm below meth zc A ls C0 hin hK hA hl hw
  obtain ⟨hx, hb, hr, hlk, hml, hown, hts⟩ := C0
  obtain ⟨R, hRR⟩ : ∃ R : Room, R = rmL 1 2 12 := ⟨_, rfl⟩
  have hRf : R.frames = 1 := by rw [hRR]
  have hRl : R.locals = 64 * 1 := by rw [hRR]
  have hRc : R.cells = 2 := by rw [hRR]
  have hRs : R.slots = 12 := by rw [hRR]
  rw [← hRR]; clear hRR
  generalize hQ : MQ below _ _ zs _ _ A = Q
  generalize hAr : List.toArray _ = args at hts hQ ⊢
  replace hl : lv_has ls 1 [(0, .ref h0)] := hl
  obtain ⟨H, eH⟩ : ∃ H : Heap, H = zs.heap := ⟨_, rfl⟩
  obtain ⟨locs, eL⟩ : ∃ l0 : List Loc, l0 = [] := ⟨_, rfl⟩
  rw [← eH, ← eL] at hw ⊢; clear eH eL
  refine lv_aload_n hx hb d_W_init_0 rfl (lv_at hl 0 rfl) ?_
  refine W.objInit hx hb hown (hts _ tm_29) (hts _ tm_20) (hts _ tm_21) rfl (by rw [hml]; exact hl.1) rfl d_W_init_1 (by omega) (by rw [hRl]; exact Nat.le_of_ble_eq_true rfl) ?_
  refine W.eq (g2 := F0 zm 4 ls []) rfl ?_
  refine lv_aload_n hx hb d_W_init_4 rfl (lv_at hl 0 rfl) ?_
  refine lv_iconst (v := nI 4) hx hb d_W_init_5 rfl ?_
  refine r_newI hx hb hts hK hA hw (by omega) (by omega) (by omega) d_W_init_6 (fun sa H hw1 => ?_)
  replace hw : WW G A zs ([oW h0 [.null, .null, .int 0], aI G sa 4 (fun _ => 0)]) H locs := hw1
  refine p_W_9 hx hb hts hown hin hK hw 0 rfl (Nat.le_of_ble_eq_true rfl) d_W_init_8 (fun H locs hw1 => ?_)
  replace hw : WW G A zs ([oW h0 [.ref sa, .null, .int 0], aI G sa 4 (fun _ => 0)]) H locs := hw1
  refine lv_aload_n hx hb d_W_init_11 rfl (lv_at hl 0 rfl) ?_
  refine lv_bipush (v := nI 8) hx hb d_W_init_12 (by decide) ?_
  refine r_newI hx hb hts hK hA hw (by omega) (by omega) (by omega) d_W_init_14 (fun ca H hw1 => ?_)
  replace hw : WW G A zs ([oW h0 [.ref sa, .null, .int 0], aI G sa 4 (fun _ => 0), aI G ca 8 (fun _ => 0)]) H locs := hw1
  refine p_W_15 hx hb hts hown hin hK hw 0 rfl (Nat.le_of_ble_eq_true rfl) d_W_init_16 (fun H locs hw1 => ?_)
  replace hw : WW G A zs ([oW h0 [.ref sa, .ref ca, .int 0], aI G sa 4 (fun _ => 0), aI G ca 8 (fun _ => 0)]) H locs := hw1
  exact r_ret hQ (r_vret (sa, ca) hx hb hr hlk hw trivial (by omega) (by omega) d_W_init_19)
set_option maxHeartbeats 4000000 in
set_option maxRecDepth 100000 in
theorem c_X_number0 (zl : Launch) (G : GG) (h0 qn qm n : Nat) (v1 v2 v3 v4 v5 v6 v9 v10 v11 v12 v13 v14 v15 v16 v17 v18 v19 v20 v21 v22 v23 v24 v26 : Value) (fn fk : Nat → Int32) (pl : List (List Nat)) (l : List Nat) (us : Nat) (hn4 : n ≤ 4) (hll : l.length + 0 = n) (hus : us < 16) (h24 : pl.length + (numA n 0 l us).length ≤ 24) (hfn : NumF pl fn) (hfk : ∀ i, i < l.length → fk i = nI (l.getD i 0)) : Ctr (S := (Nat → Int32) × (Nat → Int32)) vV zl y_X_number b_X_number 4 (Option.none : Option Jvm.ClassFile.FieldType) 0 0 0 G [.ref h0, .int (nI l.length), .int (nI us)] ([oX h0 [.int (nI n), v1, v2, v3, v4, v5, v6, .ref qn, .int (nI pl.length), v9, v10, v11, v12, v13, v14, v15, v16, v17, v18, v19, v20, v21, v22, v23, v24, .ref qm, v26], aI G qn 96 fn, aI G qm 4 fk]) (fun _ u => NumF (pl ++ numA n 0 l us) u.1 ∧ ∀ i, i < l.length → u.2 i = nI (l.getD i 0)) (fun u => [oX h0 [.int (nI n), v1, v2, v3, v4, v5, v6, .ref qn, .int (nI ((pl ++ numA n 0 l us).length)), v9, v10, v11, v12, v13, v14, v15, v16, v17, v18, v19, v20, v21, v22, v23, v24, .ref qm, v26], aI G qn 96 u.1, aI G qm 4 u.2]) := by
  refine Ctr.start (by decide) (Nat.le_of_ble_eq_true rfl) ?_
  intro zp ze zs zm below meth zc A ls C0 hin hK hA hl hw
  obtain ⟨hx, hb, hr, hlk, hml, hown, hts⟩ := C0
  obtain ⟨R, hRR⟩ : ∃ R : Room, R = rmL 0 0 0 := ⟨_, rfl⟩
  have hRf : R.frames = 0 := by rw [hRR]
  have hRl : R.locals = 64 * 0 := by rw [hRR]
  have hRc : R.cells = 0 := by rw [hRR]
  have hRs : R.slots = 0 := by rw [hRR]
  rw [← hRR]; clear hRR
  generalize hQ : MQ below _ _ zs _ _ A = Q
  generalize hAr : List.toArray _ = args at hts hQ ⊢
  replace hl : lv_has ls 4 [(0, .ref h0), (1, .int (nI l.length)), (2, .int (nI us))] := hl
  obtain ⟨H, eH⟩ : ∃ H : Heap, H = zs.heap := ⟨_, rfl⟩
  obtain ⟨locs, eL⟩ : ∃ l0 : List Loc, l0 = [] := ⟨_, rfl⟩
  rw [← eH, ← eL] at hw ⊢; clear eH eL
  have h1 : (numA n 0 l us).length = 1 := rfl
  have hz : pl.length + 1 = (pl ++ numA n 0 l us).length := by rw [List.length_append]; rfl
  refine lv_iload_n hx hb d_X_number_0 rfl (lv_at hl 1 rfl) ?_
  refine lv_aload_n hx hb d_X_number_1 rfl (lv_at hl 0 rfl) ?_
  refine g_X_74 hx hb hts hown hK hw 0 rfl rfl d_X_number_2 ?_
  refine r_icmp_ne (tgt := 63) hx hb (by omega) (by omega) d_X_number_5 (by decide) (fun c_5 => ?_) (fun c_5 => ?_)
  · skip
    exfalso; omega
  · skip
    refine lv_iconst (v := nI 0) hx hb d_X_number_8 rfl ?_
    refine lv_istore_n (lv' := [(3, .int (nI 0)), (0, .ref h0), (1, .int (nI l.length)), (2, .int (nI us))]) hx hb d_X_number_9 rfl hl (by decide) rfl (fun ls hl => ?_)
    have Lp10 : ∀ N_10 : Nat, ∀ (k : Nat) (fn : Nat → Int32), (k ≤ 4) → (NumF pl fn ∧ ∀ t, t < k → fn (4 * pl.length + t) = nI ((pmX n l).getD t 0)) → 4 - k < N_10 → ∀ (H : Heap) (locs : List Loc) (ls : Array Slot), lv_has ls 4 [(0, .ref h0), (3, .int (nI k))] → WW G A zs ([oX h0 [.int (nI n), v1, v2, v3, v4, v5, v6, .ref qn, .int (nI pl.length), v9, v10, v11, v12, v13, v14, v15, v16, v17, v18, v19, v20, v21, v22, v23, v24, .ref qm, v26], aI G qn 96 fn, aI G qm 4 fk]) H locs → W zp zl ze R zs zm args below meth zc H locs 0 0 Q (F0 zm 10 ls []) := by
      intro N_10
      induction N_10 with
      | zero => intros; omega
      | succ N_10 ih_10 =>
        intro k fn hk hf2 hN_10 H locs ls hl hw
        refine lv_iload_n hx hb d_X_number_10 rfl (lv_at hl 1 rfl) ?_
        refine lv_iconst (v := nI 4) hx hb d_X_number_11 rfl ?_
        refine r_icmp_ge (tgt := 52) hx hb (by omega) (by omega) d_X_number_12 (by decide) (fun c_12 => ?_) (fun c_12 => ?_)
        · skip
          refine lv_aload_n hx hb d_X_number_52 rfl (lv_at hl 0 rfl) ?_
          refine lv_dup hx hb d_X_number_53 rfl ?_
          refine g_X_87 hx hb hts hown hK hw 0 rfl rfl d_X_number_54 ?_
          refine lv_iconst (v := nI 1) hx hb d_X_number_57 rfl ?_
          refine r_iaddN hx hb d_X_number_58 ?_
          refine r_eq (show nI (pl.length + 1) = nI ((pl ++ numA n 0 l us).length) from congrArg nI hz) ?_
          refine p_X_87 hx hb hts hown hK hw 0 rfl (Nat.le_of_ble_eq_true rfl) d_X_number_59 (fun H locs hw1 => ?_)
          replace hw : WW G A zs ([oX h0 [.int (nI n), v1, v2, v3, v4, v5, v6, .ref qn, .int (nI ((pl ++ numA n 0 l us).length)), v9, v10, v11, v12, v13, v14, v15, v16, v17, v18, v19, v20, v21, v22, v23, v24, .ref qm, v26], aI G qn 96 fn, aI G qm 4 fk]) H locs := hw1
          exact r_ret hQ (r_vret (fn, fk) hx hb hr hlk hw (⟨hf2.1.snoc hf2.2 (by omega), hfk⟩) (by omega) (by omega) d_X_number_62)
        · skip
          refine lv_aload_n hx hb d_X_number_15 rfl (lv_at hl 0 rfl) ?_
          refine g_X_23 hx hb hts hown hK hw 0 rfl rfl d_X_number_16 ?_
          refine lv_iconst (v := nI 4) hx hb d_X_number_19 rfl ?_
          refine lv_aload_n hx hb d_X_number_20 rfl (lv_at hl 0 rfl) ?_
          refine g_X_87 hx hb hts hown hK hw 0 rfl rfl d_X_number_21 ?_
          refine r_imulN hx hb d_X_number_24 ?_
          refine lv_iload_n hx hb d_X_number_25 rfl (lv_at hl 1 rfl) ?_
          refine r_iaddN hx hb d_X_number_26 ?_
          refine lv_iload_n hx hb d_X_number_27 rfl (lv_at hl 1 rfl) ?_
          refine lv_aload_n hx hb d_X_number_28 rfl (lv_at hl 0 rfl) ?_
          refine g_X_74 hx hb hts hown hK hw 0 rfl rfl d_X_number_29 ?_
          refine r_icmp_ge (tgt := 44) hx hb (by omega) (by omega) d_X_number_32 (by decide) (fun c_32 => ?_) (fun c_32 => ?_)
          · skip
            refine lv_iload_n hx hb d_X_number_44 rfl (lv_at hl 1 rfl) ?_
            refine r_iast hx hb hK hw 1 rfl (by omega) (by omega) d_X_number_45 (fun H locs hw1 => ?_)
            replace hw : WW G A zs ([oX h0 [.int (nI n), v1, v2, v3, v4, v5, v6, .ref qn, .int (nI pl.length), v9, v10, v11, v12, v13, v14, v15, v16, v17, v18, v19, v20, v21, v22, v23, v24, .ref qm, v26], aI G qn 96 (upd fn ((4 * pl.length) + k) (nI k)), aI G qm 4 fk]) H locs := hw1
            refine r_iincN (n := 1) (lv' := [(3, .int (nI (k + 1))), (0, .ref h0)]) hx hb d_X_number_46 hl (k := 1) rfl (by decide) rfl (fun ls hl => ?_)
            refine lv_goto (tgt := 10) hx hb d_X_number_49 (by decide) ?_
            exact ih_10 (k + 1) (upd fn ((4 * pl.length) + k) (nI k)) (by omega) ⟨hf2.1.up (by omega), num_fl hf2.2 (by rw [pmX_get c_12, if_neg (by omega)])⟩ (by omega) _ _ _ (lv_sub hl [1, 0] rfl) hw
          · skip
            refine lv_aload_n hx hb d_X_number_35 rfl (lv_at hl 0 rfl) ?_
            refine g_X_65 hx hb hts hown hK hw 0 rfl rfl d_X_number_36 ?_
            refine lv_iload_n hx hb d_X_number_39 rfl (lv_at hl 1 rfl) ?_
            refine r_iald hx hb hK hw 2 rfl (by omega) (by omega) d_X_number_40 ?_
            refine r_eq (show fk k = nI (l.getD k 0) from hfk k (by omega)) ?_
            refine lv_goto (tgt := 45) hx hb d_X_number_41 (by decide) ?_
            refine r_iast hx hb hK hw 1 rfl (by omega) (by omega) d_X_number_45 (fun H locs hw1 => ?_)
            replace hw : WW G A zs ([oX h0 [.int (nI n), v1, v2, v3, v4, v5, v6, .ref qn, .int (nI pl.length), v9, v10, v11, v12, v13, v14, v15, v16, v17, v18, v19, v20, v21, v22, v23, v24, .ref qm, v26], aI G qn 96 (upd fn ((4 * pl.length) + k) (nI (l.getD k 0))), aI G qm 4 fk]) H locs := hw1
            refine r_iincN (n := 1) (lv' := [(3, .int (nI (k + 1))), (0, .ref h0)]) hx hb d_X_number_46 hl (k := 1) rfl (by decide) rfl (fun ls hl => ?_)
            refine lv_goto (tgt := 10) hx hb d_X_number_49 (by decide) ?_
            exact ih_10 (k + 1) (upd fn ((4 * pl.length) + k) (nI (l.getD k 0))) (by omega) ⟨hf2.1.up (by omega), num_fl hf2.2 (by rw [pmX_get c_12, if_pos c_32])⟩ (by omega) _ _ _ (lv_sub hl [1, 0] rfl) hw
    exact Lp10 _ 0 fn (by omega) ⟨hfn, fun t ht => absurd ht (Nat.not_lt_zero _)⟩ (Nat.lt_succ_self _) _ _ _ (lv_sub hl [1, 0] rfl) hw
set_option maxHeartbeats 4000000 in
set_option maxRecDepth 100000 in
theorem c_X_numberS (zl : Launch) (G : GG) (h0 qn qm n : Nat) (v1 v2 v3 v4 v5 v6 v9 v10 v11 v12 v13 v14 v15 v16 v17 v18 v19 v20 v21 v22 v23 v24 v26 : Value) (d : Nat) (hrec : ∀ (fn fk : Nat → Int32) (pl : List (List Nat)) (l : List Nat) (us : Nat), (n ≤ 4) → (l.length + d = n) → (us < 16) → (pl.length + (numA n d l us).length ≤ 24) → (NumF pl fn) → (∀ i, i < l.length → fk i = nI (l.getD i 0)) → Ctr (S := (Nat → Int32) × (Nat → Int32)) vV zl y_X_number b_X_number 4 (Option.none : Option Jvm.ClassFile.FieldType) d 0 0 G [.ref h0, .int (nI l.length), .int (nI us)] [oX h0 [.int (nI n), v1, v2, v3, v4, v5, v6, .ref qn, .int (nI pl.length), v9, v10, v11, v12, v13, v14, v15, v16, v17, v18, v19, v20, v21, v22, v23, v24, .ref qm, v26], aI G qn 96 fn, aI G qm 4 fk] (fun _ u => NumF (pl ++ numA n d l us) u.1 ∧ ∀ i, i < l.length → u.2 i = nI (l.getD i 0)) (fun u => [oX h0 [.int (nI n), v1, v2, v3, v4, v5, v6, .ref qn, .int (nI ((pl ++ numA n d l us).length)), v9, v10, v11, v12, v13, v14, v15, v16, v17, v18, v19, v20, v21, v22, v23, v24, .ref qm, v26], aI G qn 96 u.1, aI G qm 4 u.2])) (fn fk : Nat → Int32) (pl : List (List Nat)) (l : List Nat) (us : Nat) (hn4 : n ≤ 4) (hll : l.length + (d + 1) = n) (hus : us < 16) (h24 : pl.length + (numA n (d + 1) l us).length ≤ 24) (hfn : NumF pl fn) (hfk : ∀ i, i < l.length → fk i = nI (l.getD i 0)) : Ctr (S := (Nat → Int32) × (Nat → Int32)) vV zl y_X_number b_X_number 4 (Option.none : Option Jvm.ClassFile.FieldType) (d + 1) 0 0 G [.ref h0, .int (nI l.length), .int (nI us)] ([oX h0 [.int (nI n), v1, v2, v3, v4, v5, v6, .ref qn, .int (nI pl.length), v9, v10, v11, v12, v13, v14, v15, v16, v17, v18, v19, v20, v21, v22, v23, v24, .ref qm, v26], aI G qn 96 fn, aI G qm 4 fk]) (fun _ u => NumF (pl ++ numA n (d + 1) l us) u.1 ∧ ∀ i, i < l.length → u.2 i = nI (l.getD i 0)) (fun u => [oX h0 [.int (nI n), v1, v2, v3, v4, v5, v6, .ref qn, .int (nI ((pl ++ numA n (d + 1) l us).length)), v9, v10, v11, v12, v13, v14, v15, v16, v17, v18, v19, v20, v21, v22, v23, v24, .ref qm, v26], aI G qn 96 u.1, aI G qm 4 u.2]) := by
  refine Ctr.start (by decide) (Nat.le_of_ble_eq_true rfl) ?_
  intro zp ze zs zm below meth zc A ls C0 hin hK hA hl hw
  obtain ⟨hx, hb, hr, hlk, hml, hown, hts⟩ := C0
  obtain ⟨R, hRR⟩ : ∃ R : Room, R = rmL (d + 1) 0 0 := ⟨_, rfl⟩
  have hRf : R.frames = (d + 1) := by rw [hRR]
  have hRl : R.locals = 64 * (d + 1) := by rw [hRR]
  have hRc : R.cells = 0 := by rw [hRR]
  have hRs : R.slots = 0 := by rw [hRR]
  rw [← hRR]; clear hRR
  generalize hQ : MQ below _ _ zs _ _ A = Q
  generalize hAr : List.toArray _ = args at hts hQ ⊢
  replace hl : lv_has ls 4 [(0, .ref h0), (1, .int (nI l.length)), (2, .int (nI us))] := hl
  obtain ⟨H, eH⟩ : ∃ H : Heap, H = zs.heap := ⟨_, rfl⟩
  obtain ⟨locs, eL⟩ : ∃ l0 : List Loc, l0 = [] := ⟨_, rfl⟩
  rw [← eH, ← eL] at hw ⊢; clear eH eL
  refine lv_iload_n hx hb d_X_number_0 rfl (lv_at hl 1 rfl) ?_
  refine lv_aload_n hx hb d_X_number_1 rfl (lv_at hl 0 rfl) ?_
  refine g_X_74 hx hb hts hown hK hw 0 rfl rfl d_X_number_2 ?_
  refine r_icmp_ne (tgt := 63) hx hb (by omega) (by omega) d_X_number_5 (by decide) (fun c_5 => ?_) (fun c_5 => ?_)
  · skip
    refine lv_iconst (v := nI 0) hx hb d_X_number_63 rfl ?_
    refine lv_istore_n (lv' := [(3, .int (nI 0)), (0, .ref h0), (1, .int (nI l.length)), (2, .int (nI us))]) hx hb d_X_number_64 rfl hl (by decide) rfl (fun ls hl => ?_)
    have Lp65 : ∀ N_65 : Nat, ∀ (k : Nat) (fn : Nat → Int32) (fk : Nat → Int32), (k ≤ n) → (NumF (pl ++ numK n d l us k) fn) → (∀ i, i < l.length → fk i = nI (l.getD i 0)) → n - k < N_65 → ∀ (H : Heap) (locs : List Loc) (ls : Array Slot), lv_has ls 4 [(0, .ref h0), (1, .int (nI l.length)), (2, .int (nI us)), (3, .int (nI k))] → WW G A zs ([oX h0 [.int (nI n), v1, v2, v3, v4, v5, v6, .ref qn, .int (nI ((pl ++ numK n d l us k).length)), v9, v10, v11, v12, v13, v14, v15, v16, v17, v18, v19, v20, v21, v22, v23, v24, .ref qm, v26], aI G qn 96 fn, aI G qm 4 fk]) H locs → W zp zl ze R zs zm args below meth zc H locs 0 0 Q (F0 zm 65 ls []) := by
      intro N_65
      induction N_65 with
      | zero => intros; omega
      | succ N_65 ih_65 =>
        intro k fn fk hk hfn2 hfk2 hN_65 H locs ls hl hw
        have hle9 := numK_le (n := n) (d := d) (us := us) (l := l) hk
        refine lv_iload_n hx hb d_X_number_65 rfl (lv_at hl 3 rfl) ?_
        refine lv_aload_n hx hb d_X_number_66 rfl (lv_at hl 0 rfl) ?_
        refine g_X_74 hx hb hts hown hK hw 0 rfl rfl d_X_number_67 ?_
        refine r_icmp_ge (tgt := 106) hx hb (by omega) (by omega) d_X_number_70 (by decide) (fun c_70 => ?_) (fun c_70 => ?_)
        · skip
          rw [show k = n by omega] at hw
          exact r_ret hQ (r_vret (fn, fk) hx hb hr hlk hw (⟨by have hz := hfn2; rw [show k = n by omega] at hz; exact hz, hfk2⟩) (by omega) (by omega) d_X_number_106)
        · skip
          refine lv_iload_n hx hb d_X_number_73 rfl (lv_at hl 2 rfl) ?_
          refine lv_iload_n hx hb d_X_number_74 rfl (lv_at hl 3 rfl) ?_
          refine r_ishrN hx hb (k := k) (by omega) (by omega) d_X_number_75 ?_
          refine lv_iconst (v := nI 1) hx hb d_X_number_76 rfl ?_
          refine r_iandN hx hb d_X_number_77 ?_
          refine r_eq (show nI ((us / 2 ^ k) &&& 1) = nI (us / 2 ^ k % 2) from congrArg nI (and1 _)) ?_
          refine r_if_ne (tgt := 100) hx hb (by omega) d_X_number_78 (by decide) (fun c_78 => ?_) (fun c_78 => ?_)
          · skip
            refine r_iincN (n := 1) (lv' := [(3, .int (nI (k + 1))), (0, .ref h0), (1, .int (nI l.length)), (2, .int (nI us))]) hx hb d_X_number_100 hl (k := 3) rfl (by decide) rfl (fun ls hl => ?_)
            refine lv_goto (tgt := 65) hx hb d_X_number_103 (by decide) ?_
            rw [show (pl ++ numK n d l us k).length = (pl ++ numK n d l us (k + 1)).length by rw [numK_n c_78]] at hw
            exact ih_65 (k + 1) fn fk (by omega) (by rw [numK_n c_78]; exact hfn2) hfk2 (by omega) _ _ _ (lv_sub hl [1, 2, 3, 0] rfl) hw
          · skip
            have hpk : 2 ^ k ≤ 16 := pow_mono (b := 4) (by omega)
            refine lv_aload_n hx hb d_X_number_81 rfl (lv_at hl 0 rfl) ?_
            refine g_X_65 hx hb hts hown hK hw 0 rfl rfl d_X_number_82 ?_
            refine lv_iload_n hx hb d_X_number_85 rfl (lv_at hl 1 rfl) ?_
            refine lv_iload_n hx hb d_X_number_86 rfl (lv_at hl 3 rfl) ?_
            refine r_iast hx hb hK hw 2 rfl (by omega) (by omega) d_X_number_87 (fun H locs hw1 => ?_)
            replace hw : WW G A zs ([oX h0 [.int (nI n), v1, v2, v3, v4, v5, v6, .ref qn, .int (nI ((pl ++ numK n d l us k).length)), v9, v10, v11, v12, v13, v14, v15, v16, v17, v18, v19, v20, v21, v22, v23, v24, .ref qm, v26], aI G qn 96 fn, aI G qm 4 (upd fk l.length (nI k))]) H locs := hw1
            refine lv_aload_n hx hb d_X_number_88 rfl (lv_at hl 0 rfl) ?_
            refine lv_iload_n hx hb d_X_number_89 rfl (lv_at hl 1 rfl) ?_
            refine lv_iconst (v := nI 1) hx hb d_X_number_90 rfl ?_
            refine r_iaddN hx hb d_X_number_91 ?_
            refine r_eq (show nI (l.length + 1) = nI ((l ++ [k]).length) from congrArg nI (by rw [List.length_append]; rfl)) ?_
            refine lv_iload_n hx hb d_X_number_92 rfl (lv_at hl 2 rfl) ?_
            refine lv_iconst (v := nI 1) hx hb d_X_number_93 rfl ?_
            refine lv_iload_n hx hb d_X_number_94 rfl (lv_at hl 3 rfl) ?_
            refine r_ishlN hx hb (k := k) (by omega) (by omega) d_X_number_95 ?_
            refine r_iorN hx hb d_X_number_96 ?_
            have hle8 := numK_le (n := n) (d := d) (us := us) (l := l) (k := k + 1) (by omega)
            rw [numK_y c_78, List.length_append] at hle8
            refine xVA_v (rest := []) (As := [.int (nI ((l ++ [k]).length)), .int (nI (us ||| (1 * 2 ^ k)))]) hx hb hml hown hts hK hA hw k_X_80 (hrec fn (upd fk l.length (nI k)) (pl ++ numK n d l us k) (l ++ [k]) (us ||| 1 * 2 ^ k) hn4 (by rw [List.length_append, List.length_singleton]; omega) (us_lt hus (by omega)) (by rw [List.length_append]; omega) hfn2 (nam_s hfk2)) 0 rfl rfl rfl rfl hl.1 (Nat.le_of_ble_eq_true rfl) ⟨(by omega), (by omega)⟩ ⟨(by omega), (by omega)⟩ d_X_number_97 (fun _ u9 H locs hp hw1 => ?_)
            obtain ⟨fn9, fk9⟩ := u9
            obtain ⟨hp1, hp2⟩ := hp
            dsimp only at hp1 hp2
            refine W.cs (cells' := 0) (slots' := 0) rfl rfl ?_
            replace hw : WW G A zs ([oX h0 [.int (nI n), v1, v2, v3, v4, v5, v6, .ref qn, .int (nI (((pl ++ numK n d l us k) ++ numA n d (l ++ [k]) (us ||| 1 * 2 ^ k)).length)), v9, v10, v11, v12, v13, v14, v15, v16, v17, v18, v19, v20, v21, v22, v23, v24, .ref qm, v26], aI G qn 96 fn9, aI G qm 4 fk9]) H locs := hw1
            refine r_iincN (n := 1) (lv' := [(3, .int (nI (k + 1))), (0, .ref h0), (1, .int (nI l.length)), (2, .int (nI us))]) hx hb d_X_number_100 hl (k := 3) rfl (by decide) rfl (fun ls hl => ?_)
            refine lv_goto (tgt := 65) hx hb d_X_number_103 (by decide) ?_
            rw [show ((pl ++ numK n d l us k) ++ numA n d (l ++ [k]) (us ||| 1 * 2 ^ k)).length = (pl ++ numK n d l us (k + 1)).length by rw [numK_y c_78, ← List.append_assoc]] at hw
            exact ih_65 (k + 1) fn9 fk9 (by omega) (by rw [numK_y c_78, ← List.append_assoc]; exact hp1) (fun i hi => by rw [hp2 i (by rw [List.length_append]; omega), getD_S_lt hi]) (by omega) _ _ _ (lv_sub hl [1, 2, 3, 0] rfl) hw
    rw [show pl.length = (pl ++ numK n d l us 0).length by rw [show numK n d l us 0 = [] from rfl, List.append_nil]] at hw
    exact Lp65 _ 0 fn fk (by omega) (by rw [show numK n d l us 0 = [] from rfl, List.append_nil]; exact hfn) hfk (Nat.lt_succ_self _) _ _ _ (lv_sub hl [1, 2, 3, 0] rfl) hw
  · skip
    exfalso; omega
theorem c_X_number (zl : Launch) (G : GG) (h0 qn qm n : Nat) (v1 v2 v3 v4 v5 v6 v9 v10 v11 v12 v13 v14 v15 v16 v17 v18 v19 v20 v21 v22 v23 v24 v26 : Value) : ∀ (d : Nat) (fn fk : Nat → Int32) (pl : List (List Nat)) (l : List Nat) (us : Nat) (hn4 : n ≤ 4) (hll : l.length + d = n) (hus : us < 16) (h24 : pl.length + (numA n d l us).length ≤ 24) (hfn : NumF pl fn) (hfk : ∀ i, i < l.length → fk i = nI (l.getD i 0)), Ctr (S := (Nat → Int32) × (Nat → Int32)) vV zl y_X_number b_X_number 4 (Option.none : Option Jvm.ClassFile.FieldType) d 0 0 G [.ref h0, .int (nI l.length), .int (nI us)] [oX h0 [.int (nI n), v1, v2, v3, v4, v5, v6, .ref qn, .int (nI pl.length), v9, v10, v11, v12, v13, v14, v15, v16, v17, v18, v19, v20, v21, v22, v23, v24, .ref qm, v26], aI G qn 96 fn, aI G qm 4 fk] (fun _ u => NumF (pl ++ numA n d l us) u.1 ∧ ∀ i, i < l.length → u.2 i = nI (l.getD i 0)) (fun u => [oX h0 [.int (nI n), v1, v2, v3, v4, v5, v6, .ref qn, .int (nI ((pl ++ numA n d l us).length)), v9, v10, v11, v12, v13, v14, v15, v16, v17, v18, v19, v20, v21, v22, v23, v24, .ref qm, v26], aI G qn 96 u.1, aI G qm 4 u.2])
  | 0, fn, fk, pl, l, us, a, b, c, e, f, g => c_X_number0 zl G h0 qn qm n v1 v2 v3 v4 v5 v6 v9 v10 v11 v12 v13 v14 v15 v16 v17 v18 v19 v20 v21 v22 v23 v24 v26 fn fk pl l us a b c e f g
  | d + 1, fn, fk, pl, l, us, a, b, c, e, f, g => c_X_numberS zl G h0 qn qm n v1 v2 v3 v4 v5 v6 v9 v10 v11 v12 v13 v14 v15 v16 v17 v18 v19 v20 v21 v22 v23 v24 v26 d (c_X_number zl G h0 qn qm n v1 v2 v3 v4 v5 v6 v9 v10 v11 v12 v13 v14 v15 v16 v17 v18 v19 v20 v21 v22 v23 v24 v26 d) fn fk pl l us a b c e f g
