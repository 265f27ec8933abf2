/-! the twin: what is asked -/
set_option maxHeartbeats 4000000 in
set_option maxRecDepth 100000 in
theorem m_X3_began (l : Launch) (g : zG) (ad : Nat → Nat) (fi : Nat → Int32) (cn : Nat → Nat → Int32) (xl : Nat → Nat → Int64) (sz : Nat) (tr : Nat → Nat) (n b : Nat) (hc28 : cn 28 = nF tr) (hf29 : fi 29 = nI n) (hn16 : n < 16) : Met l yX3_began (ws_ yX3_began cX3_began 2 none) ({ frames := 0, cells := 0, slots := 0, locals := 0 }) (zPc g [.ref (ad 0), .int (nI b)] (mH g ad fi cn xl sz)) (va_Qv (fun u => True ∧ u = (va_up fi 29 (nI (n + 1)), va_up cn 28 (nF (va_up tr n b)), xl)) (mB g ad sz) (mA ad sz)) 0 0 (mA ad sz) := by
  refine Met.ofW (cc := cX3_began) (maxL := 2) (ret := none) (by decide) rfl ?_
  intro p e s m args below meth c s₁ B0 hml hv
  obtain ⟨rfl, ⟨hK, hN⟩, hsz, hP, hD⟩ := hv
  have hx := B0.exec
  have hb := B0.bytes
  have hr := B0.returns
  have hts := atoms_spec (ws := ws_ yX3_began cX3_began 2 none) B0.pre
  have hts : ∀ w ∈ lw_all, w.before _ s = true := fun w h => hts w (List.mem_cons_of_mem _ h)
  have hown : s.vm.findClass RX3 = some m.cls := findClass_of_methodNamed B0.named
  have hlocks := B0.notSynchronized
  subst hsz
  have hD := mD_self s.heap.size hD
  have hS : va_S (mA ad s.heap.size) s.heap s.heap [] := va_S.rf
  have hl := lv_entry ([.ref (ad 0), .int (nI b)]) (n := 2) (Nat.le_of_ble_eq_true rfl)
  rw [lg_entry_eq]
  generalize (lg_sl ([.ref (ad 0), .int (nI b)]) ++ List.replicate (2 - (lg_sl ([.ref (ad 0), .int (nI b)])).length) Slot.unset).toArray = ls at hl ⊢
  have hl : lv_has ls 2 [(0, .ref (ad 0)), (1, .int (nI b))] := hl
  refine lv_aload_n hx hb dX3_began_0 rfl (lv_at hl 0 rfl) ?_
  refine va_get (D := g.1) (ci := 3) (v := .int (fi 29)) (C := RX3) (T := TX3) (N := 30) hx hb hts in_X3 hown hK hP 0 rfl rfl 29 (by decide) (hts _ q1326) (fun _ h9 => h9) rfl dX3_began_1 ?_
  refine zti (hf29) ?_
  refine lv_bipush (v := nI 16) hx hb dX3_began_4 (by decide) ?_
  refine zc_ge (tgt := 29) hx hb (by omega) (by omega) dX3_began_6 (by decide) (fun c_6 => ?_) (fun c_6 => ?_)
  · omega
  · refine lv_aload_n hx hb dX3_began_9 rfl (lv_at hl 0 rfl) ?_
    refine va_get (D := g.1) (ci := 3) (v := .ref (ad 28)) (C := RX3) (T := TX3) (N := 30) hx hb hts in_X3 hown hK hP 0 rfl rfl 28 (by decide) (hts _ q1325) (fun _ h9 => h9) rfl dX3_began_10 ?_
    refine lv_aload_n hx hb dX3_began_13 rfl (lv_at hl 0 rfl) ?_
    refine va_get (D := g.1) (ci := 3) (v := .int (fi 29)) (C := RX3) (T := TX3) (N := 30) hx hb hts in_X3 hown hK hP 0 rfl rfl 29 (by decide) (hts _ q1326) (fun _ h9 => h9) rfl dX3_began_14 ?_
    refine zti (hf29) ?_
    refine lv_iload_n hx hb dX3_began_17 rfl (lv_at hl 1 rfl) ?_
    refine zast (f := cn 28) hx hb hK hP hD hS 17 0 rfl rfl (j := n) (by omega) (by decide) dX3_began_18 (fun H locs hP hD hS => ?_)
    rw [hc28] at hP hD
    rw [nF_up] at hP hD
    have hP : va_P g.1 zCL (mW g ad fi (va_up cn 28 (nF (va_up tr n b))) xl) _ := hP
    have hD : va_D (mA ad s.heap.size) (mW g ad fi (va_up cn 28 (nF (va_up tr n b))) xl) := hD
    refine lv_aload_n hx hb dX3_began_19 rfl (lv_at hl 0 rfl) ?_
    refine lv_dup hx hb dX3_began_20 rfl ?_
    refine va_get (D := g.1) (ci := 3) (v := .int (fi 29)) (C := RX3) (T := TX3) (N := 30) hx hb hts in_X3 hown hK hP 0 rfl rfl 29 (by decide) (hts _ q1326) (fun _ h9 => h9) rfl dX3_began_21 ?_
    refine zti (hf29) ?_
    refine lv_iconst (v := nI 1) hx hb dX3_began_24 (by decide) ?_
    refine lv_iadd hx hb dX3_began_25 ?_
    refine zti (nI_add n 1) ?_
    refine va_put (D := g.1) (ci := 3) (v := .int (nI (n + 1))) (ty := .int) (C := RX3) (T := TX3) (N := 30) hx hb hts in_X3 tyX3 tyX3_ok nmX3 hown hK hP hD hS 0 rfl rfl 29 (by decide) (hts _ q1326) (fun _ h9 => h9) rfl (by decide +kernel) rfl rfl (Nat.le_of_ble_eq_true rfl) dX3_began_26 (fun H locs hP hD hS => ?_)
    have hP : va_P g.1 zCL (mW g ad (va_up fi 29 (nI (n + 1))) (va_up cn 28 (nF (va_up tr n b))) xl) _ := hP
    have hD : va_D (mA ad s.heap.size) (mW g ad (va_up fi 29 (nI (n + 1))) (va_up cn 28 (nF (va_up tr n b))) xl) := hD
    exact W.vret hx hb hr (fun t ht hW => ⟨⟨(va_up fi 29 (nI (n + 1)), va_up cn 28 (nF (va_up tr n b)), xl), rfl, ⟨trivial, rfl⟩, by rw [ht]; exact hP, hD⟩, hS.F ht⟩) hS.2.2 dX3_began_29

set_option maxHeartbeats 4000000 in
set_option maxRecDepth 100000 in
theorem m_X3_lentSize (l : Launch) (g : zG) (ad : Nat → Nat) (fi : Nat → Int32) (cn : Nat → Nat → Int32) (xl : Nat → Nat → Int64) (sz : Nat) (B tr : Nat → Nat) (n : Nat) (hc4 : cn 4 = nF B) (hc28 : cn 28 = nF tr) (hf29 : fi 29 = nI n) (hB : bOK B) (x : Nat) (hx0 : x < B 0) (hn15 : n < 16) : Met l yX3_lentSize (ws_ yX3_lentSize cX3_lentSize 2 (some .int)) ({ frames := 1, cells := 0, slots := 0, locals := 21 }) (zPc g [.ref (ad 0), .int (nI x)] (mH g ad fi cn xl sz)) (va_Qi (fun r9 u => r9 = nI (B (12 + 8 * x + 1)) ∧ u = (va_up fi 29 (nI (n + 1)), va_up cn 28 (nF (va_up tr n 10)), xl)) (mB g ad sz) (mA ad sz)) 0 0 (mA ad sz) := by
  refine Met.ofW (cc := cX3_lentSize) (maxL := 2) (ret := (some .int)) (by decide) rfl ?_
  intro p e s m args below meth c s₁ B0 hml hv
  obtain ⟨rfl, ⟨hK, hN⟩, hsz, hP, hD⟩ := hv
  have hx := B0.exec
  have hb := B0.bytes
  have hr := B0.returns
  have hts := atoms_spec (ws := ws_ yX3_lentSize cX3_lentSize 2 (some .int)) B0.pre
  have hts : ∀ w ∈ lw_all, w.before _ s = true := fun w h => hts w (List.mem_cons_of_mem _ h)
  have hown : s.vm.findClass RX3 = some m.cls := findClass_of_methodNamed B0.named
  have hlocks := B0.notSynchronized
  subst hsz
  have hD := mD_self s.heap.size hD
  have hS : va_S (mA ad s.heap.size) s.heap s.heap [] := va_S.rf
  have hl := lv_entry ([.ref (ad 0), .int (nI x)]) (n := 2) (Nat.le_of_ble_eq_true rfl)
  rw [lg_entry_eq]
  generalize (lg_sl ([.ref (ad 0), .int (nI x)]) ++ List.replicate (2 - (lg_sl ([.ref (ad 0), .int (nI x)])).length) Slot.unset).toArray = ls at hl ⊢
  have hl : lv_has ls 2 [(0, .ref (ad 0)), (1, .int (nI x))] := hl
  have h0 : B 0 ≤ 4 := hB.n4
  have h3 : B 3 ≤ 8 := hB.r8
  refine lv_aload_n hx hb dX3_lentSize_0 rfl (lv_at hl 0 rfl) ?_
  refine lv_bipush (v := nI 10) hx hb dX3_lentSize_1 (by decide) ?_
  have hle_3 := hS.1
  refine va_callv (va_runV (As := [.int (nI 10)]) (rest := []) ⟨hx, hb, hml, hown, hts⟩ (m_X3_began l g ad fi cn xl _ tr n 10 hc28 hf29 (by omega)) (cwV 1 hts (lw_V q1711 q1713 qs58 q69 q1714) rfl rfl rfl hdV_X3_began ⟨Nat.le_of_ble_eq_true rfl, Nat.le_of_ble_eq_true rfl⟩) (zpreV hK hN (va_recv hK hP (ci := 3) (q0 := 0) rfl rfl) ⟨rfl, hP, hD.weaken (fun _ _ _ _ => trivial)⟩) rfl rfl hl.1 rfl (lv_room (Nat.le_of_ble_eq_true rfl)) dX3_lentSize_3 ⟨Nat.le_of_ble_eq_true rfl, Nat.le_of_ble_eq_true rfl⟩) hS (fun q _ h => mA_le hS.1 q h) (mA_le hS.1) (fun u t H locs ht hvm hw_3 hB hzz hkk hS => ?_)
  obtain ⟨hP, hD⟩ := hB
  rw [ht] at hP
  have hD := hD.weaken (fun _ _ _ h => mA_le hle_3 _ h)
  obtain ⟨_, rfl⟩ := hw_3
  have hP : va_P g.1 zCL (mW g ad (va_up fi 29 (nI (n + 1))) (va_up cn 28 (nF (va_up tr n 10))) xl) _ := hP
  have hD : va_D (mA ad s.heap.size) (mW g ad (va_up fi 29 (nI (n + 1))) (va_up cn 28 (nF (va_up tr n 10))) xl) := hD
  refine lv_aload_n hx hb dX3_lentSize_6 rfl (lv_at hl 0 rfl) ?_
  refine va_get (D := g.1) (ci := 3) (v := .ref (ad 4)) (C := RX3) (T := TX3) (N := 30) hx hb hts in_X3 hown hK hP 0 rfl rfl 4 (by decide) (hts _ q1301) (fun _ h9 => h9) rfl dX3_lentSize_7 ?_
  refine lv_bipush (v := nI 12) hx hb dX3_lentSize_10 (by decide) ?_
  refine lv_bipush (v := nI 8) hx hb dX3_lentSize_12 (by decide) ?_
  refine lv_iload_n hx hb dX3_lentSize_14 rfl (lv_at hl 1 rfl) ?_
  refine lv_imul hx hb dX3_lentSize_15 ?_
  refine zti (pk_mul 8 x) ?_
  refine lv_iadd hx hb dX3_lentSize_16 ?_
  refine zti (nI_add 12 (8 * x)) ?_
  refine lv_iconst (v := nI 1) hx hb dX3_lentSize_17 (by decide) ?_
  refine lv_iadd hx hb dX3_lentSize_18 ?_
  refine zti (nI_add (12 + 8 * x) 1) ?_
  refine zald hx hb hK hP 4 0 rfl rfl (j := 12 + 8 * x + 1) (by omega) (by decide) dX3_lentSize_19 ?_
  refine zti (congrFun hc4 _) ?_
  refine zti (show (nF B) (12 + 8 * x + 1) = nI (B (12 + 8 * x + 1)) from rfl) ?_
  exact W.iret (v := nI (B (12 + 8 * x + 1))) hx hb hr (fun t ht hW => ⟨⟨nI (B (12 + 8 * x + 1)), (va_up fi 29 (nI (n + 1)), va_up cn 28 (nF (va_up tr n 10)), xl), rfl, ⟨rfl, rfl⟩, by rw [ht]; exact hP, hD⟩, hS.F ht⟩) hS.2.2 dX3_lentSize_20

set_option maxHeartbeats 4000000 in
set_option maxRecDepth 100000 in
theorem m_X3_fixedSize (l : Launch) (g : zG) (ad : Nat → Nat) (fi : Nat → Int32) (cn : Nat → Nat → Int32) (xl : Nat → Nat → Int64) (sz : Nat) (B tr : Nat → Nat) (n : Nat) (hc4 : cn 4 = nF B) (hc28 : cn 28 = nF tr) (hf29 : fi 29 = nI n) (hB : bOK B) (x : Nat) (hx0 : x < B 0) (kd : Nat) (hkd : bkd B x = kd) (hdm : kd = 4 ∨ kd = 5) (hnm : n ≤ 12) : Met l yX3_fixedSize (ws_ yX3_fixedSize cX3_fixedSize 4 (some .int)) ({ frames := 2, cells := 0, slots := 0, locals := 42 }) (zPc g [.ref (ad 0), .int (nI x)] (mH g ad fi cn xl sz)) (va_Qi (fun r9 u => r9 = bfzv kd B x ∧ u = (va_up fi 29 (nI (n + (bfzl kd).length)), va_up cn 28 (nF (btl tr n (bfzl kd))), xl)) (mB g ad sz) (mA ad sz)) 0 0 (mA ad sz) := by
  refine Met.ofW (cc := cX3_fixedSize) (maxL := 4) (ret := (some .int)) (by decide) rfl ?_
  intro p e s m args below meth c s₁ B0 hml hv
  obtain ⟨rfl, ⟨hK, hN⟩, hsz, hP, hD⟩ := hv
  have hx := B0.exec
  have hb := B0.bytes
  have hr := B0.returns
  have hts := atoms_spec (ws := ws_ yX3_fixedSize cX3_fixedSize 4 (some .int)) B0.pre
  have hts : ∀ w ∈ lw_all, w.before _ s = true := fun w h => hts w (List.mem_cons_of_mem _ h)
  have hown : s.vm.findClass RX3 = some m.cls := findClass_of_methodNamed B0.named
  have hlocks := B0.notSynchronized
  subst hsz
  have hD := mD_self s.heap.size hD
  have hS : va_S (mA ad s.heap.size) s.heap s.heap [] := va_S.rf
  have hl := lv_entry ([.ref (ad 0), .int (nI x)]) (n := 4) (Nat.le_of_ble_eq_true rfl)
  rw [lg_entry_eq]
  generalize (lg_sl ([.ref (ad 0), .int (nI x)]) ++ List.replicate (4 - (lg_sl ([.ref (ad 0), .int (nI x)])).length) Slot.unset).toArray = ls at hl ⊢
  have hl : lv_has ls 4 [(0, .ref (ad 0)), (1, .int (nI x))] := hl
  have h0 : B 0 ≤ 4 := hB.n4
  have h3 : B 3 ≤ 8 := hB.r8
  rcases hdm with rfl | rfl
  · refine lv_aload_n hx hb dX3_fixedSize_0 rfl (lv_at hl 0 rfl) ?_
    refine va_get (D := g.1) (ci := 3) (v := .ref (ad 4)) (C := RX3) (T := TX3) (N := 30) hx hb hts in_X3 hown hK hP 0 rfl rfl 4 (by decide) (hts _ q1301) (fun _ h9 => h9) rfl dX3_fixedSize_1 ?_
    refine lv_iload_n hx hb dX3_fixedSize_4 rfl (lv_at hl 1 rfl) ?_
    have hQ_5 : va_P g.1 zCL [(ad 4, .inl (g.2 0, 44, .inl (cn 4)))] _ := hP.sub [4] rfl
    rw [show _ = _ from hc4] at hQ_5
    refine vp_callSi (W.runS (As := [.ref (ad 4), .int (nI x)]) (rest := []) ⟨hx, hb, hml, hown, hts⟩ (m_X3_kindOf l g (ad 4) B x (by omega)) (va_cwS 2 hts (lw_S q1510 q1511 q69 q1512) rfl rfl rfl hdS_X3_kindOf ⟨Nat.le_of_ble_eq_true rfl, Nat.le_of_ble_eq_true rfl⟩) (zpreS hK hN hQ_5) rfl rfl hl.1 rfl (lv_room (Nat.le_of_ble_eq_true rfl)) dX3_fixedSize_5 ⟨Nat.le_of_ble_eq_true rfl, Nat.le_of_ble_eq_true rfl⟩) (fun r_5 hr_5 => ?_)
    subst hr_5
    refine zti (show _ = nI 4 from congrArg nI hkd) ?_
    refine lv_iconst (v := nI 5) hx hb dX3_fixedSize_8 (by decide) ?_
    refine zc_ne (tgt := 16) hx hb (by omega) (by omega) dX3_fixedSize_9 (by decide) (fun c_9 => ?_) (fun c_9 => ?_)
    · refine lv_iconst (v := nI 0) hx hb dX3_fixedSize_16 (by decide) ?_
      refine lv_istore_n (lv' := [(2, .int (nI 0)), (0, .ref (ad 0)), (1, .int (nI x))]) hx hb dX3_fixedSize_17 rfl hl (by decide) rfl (fun ls hl => ?_)
      refine lv_iload_n hx hb dX3_fixedSize_18 rfl (lv_at hl 0 rfl) ?_
      refine zi_eq (tgt := 28) hx hb (by omega) dX3_fixedSize_19 (by decide) (fun c_19 => ?_) (fun c_19 => ?_)
      · refine lv_aload_n hx hb dX3_fixedSize_28 rfl (lv_at hl 1 rfl) ?_
        refine lv_bipush (v := nI 13) hx hb dX3_fixedSize_29 (by decide) ?_
        have hle_31 := hS.1
        refine va_callv (va_runV (As := [.int (nI 13)]) (rest := []) ⟨hx, hb, hml, hown, hts⟩ (m_X3_began l g ad fi cn xl _ tr n 13 hc28 hf29 (by omega)) (cwV 1 hts (lw_V q1711 q1713 qs58 q69 q1714) rfl rfl rfl hdV_X3_began ⟨Nat.le_of_ble_eq_true rfl, Nat.le_of_ble_eq_true rfl⟩) (zpreV hK hN (va_recv hK hP (ci := 3) (q0 := 0) rfl rfl) ⟨rfl, hP, hD.weaken (fun _ _ _ _ => trivial)⟩) rfl rfl hl.1 rfl (lv_room (Nat.le_of_ble_eq_true rfl)) dX3_fixedSize_31 ⟨Nat.le_of_ble_eq_true rfl, Nat.le_of_ble_eq_true rfl⟩) hS (fun q _ h => mA_le hS.1 q h) (mA_le hS.1) (fun u t H locs ht hvm hw_31 hB hzz hkk hS => ?_)
        obtain ⟨hP, hD⟩ := hB
        rw [ht] at hP
        have hD := hD.weaken (fun _ _ _ h => mA_le hle_31 _ h)
        obtain ⟨_, rfl⟩ := hw_31
        have hP : va_P g.1 zCL (mW g ad (va_up fi 29 (nI (n + 1))) (va_up cn 28 (nF (va_up tr n 13))) xl) _ := hP
        have hD : va_D (mA ad s.heap.size) (mW g ad (va_up fi 29 (nI (n + 1))) (va_up cn 28 (nF (va_up tr n 13))) xl) := hD
        refine lv_aload_n hx hb dX3_fixedSize_34 rfl (lv_at hl 1 rfl) ?_
        refine lv_iload_n hx hb dX3_fixedSize_35 rfl (lv_at hl 2 rfl) ?_
        have hle_36 := hS.1
        refine va_calli (va_runV (As := [.int (nI x)]) (rest := []) ⟨hx, hb, hml, hown, hts⟩ (m_X3_lentSize l g ad (va_up fi 29 (nI (n + 1))) (va_up cn 28 (nF (va_up tr n 13))) xl _ B (va_up tr n 13) (n + 1) hc4 rfl rfl hB x (by omega) (by omega)) (cwV 1 hts (lw_V q1715 q1717 qs59 q69 q1718) rfl rfl rfl hdV_X3_lentSize ⟨Nat.le_of_ble_eq_true rfl, Nat.le_of_ble_eq_true rfl⟩) (zpreV hK hN (va_recv hK hP (ci := 3) (q0 := 0) rfl rfl) ⟨rfl, hP, hD.weaken (fun _ _ _ _ => trivial)⟩) rfl rfl hl.1 rfl (lv_room (Nat.le_of_ble_eq_true rfl)) dX3_fixedSize_36 ⟨Nat.le_of_ble_eq_true rfl, Nat.le_of_ble_eq_true rfl⟩) hS (fun q _ h => mA_le hS.1 q h) (mA_le hS.1) (fun r_36 u t H locs ht hvm hw_36 hB hzz hkk hS => ?_)
        obtain ⟨hP, hD⟩ := hB
        rw [ht] at hP
        have hD := hD.weaken (fun _ _ _ h => mA_le hle_36 _ h)
        obtain ⟨rfl, rfl⟩ := hw_36
        have hP : va_P g.1 zCL (mW g ad (va_up fi 29 (nI (n + 1 + 1))) (va_up cn 28 (nF (va_up (va_up tr n 13) (n + 1) 10))) xl) _ := hP
        have hD : va_D (mA ad s.heap.size) (mW g ad (va_up fi 29 (nI (n + 1 + 1))) (va_up cn 28 (nF (va_up (va_up tr n 13) (n + 1) 10))) xl) := hD
        refine lv_bipush (v := nI 100) hx hb dX3_fixedSize_39 (by decide) ?_
        refine lv_isub hx hb dX3_fixedSize_41 ?_
        refine lv_istore_n (lv' := [(3, .int ((nI (B (12 + 8 * x + 1))) - (nI 100))), (2, .int (nI 0)), (0, .ref (ad 0)), (1, .int (nI x))]) hx hb dX3_fixedSize_42 rfl hl (by decide) rfl (fun ls hl => ?_)
        refine lv_iload_n hx hb dX3_fixedSize_43 rfl (lv_at hl 1 rfl) ?_
        refine zi_eq (tgt := 53) hx hb (by omega) dX3_fixedSize_44 (by decide) (fun c_44 => ?_) (fun c_44 => ?_)
        · refine lv_iload_n hx hb dX3_fixedSize_53 rfl (lv_at hl 0 rfl) ?_
          exact W.iret (v := (nI (B (12 + 8 * x + 1))) - (nI 100)) hx hb hr (fun t ht hW => ⟨⟨(nI (B (12 + 8 * x + 1))) - (nI 100), (va_up fi 29 (nI (n + 1 + 1)), va_up cn 28 (nF (va_up (va_up tr n 13) (n + 1) 10)), xl), rfl, ⟨rfl, rfl⟩, by rw [ht]; exact hP, hD⟩, hS.F ht⟩) hS.2.2 dX3_fixedSize_54
        · omega
      · omega
    · omega
  · refine lv_aload_n hx hb dX3_fixedSize_0 rfl (lv_at hl 0 rfl) ?_
    refine va_get (D := g.1) (ci := 3) (v := .ref (ad 4)) (C := RX3) (T := TX3) (N := 30) hx hb hts in_X3 hown hK hP 0 rfl rfl 4 (by decide) (hts _ q1301) (fun _ h9 => h9) rfl dX3_fixedSize_1 ?_
    refine lv_iload_n hx hb dX3_fixedSize_4 rfl (lv_at hl 1 rfl) ?_
    have hQ_5 : va_P g.1 zCL [(ad 4, .inl (g.2 0, 44, .inl (cn 4)))] _ := hP.sub [4] rfl
    rw [show _ = _ from hc4] at hQ_5
    refine vp_callSi (W.runS (As := [.ref (ad 4), .int (nI x)]) (rest := []) ⟨hx, hb, hml, hown, hts⟩ (m_X3_kindOf l g (ad 4) B x (by omega)) (va_cwS 2 hts (lw_S q1510 q1511 q69 q1512) rfl rfl rfl hdS_X3_kindOf ⟨Nat.le_of_ble_eq_true rfl, Nat.le_of_ble_eq_true rfl⟩) (zpreS hK hN hQ_5) rfl rfl hl.1 rfl (lv_room (Nat.le_of_ble_eq_true rfl)) dX3_fixedSize_5 ⟨Nat.le_of_ble_eq_true rfl, Nat.le_of_ble_eq_true rfl⟩) (fun r_5 hr_5 => ?_)
    subst hr_5
    refine zti (show _ = nI 5 from congrArg nI hkd) ?_
    refine lv_iconst (v := nI 5) hx hb dX3_fixedSize_8 (by decide) ?_
    refine zc_ne (tgt := 16) hx hb (by omega) (by omega) dX3_fixedSize_9 (by decide) (fun c_9 => ?_) (fun c_9 => ?_)
    · omega
    · refine lv_iconst (v := nI 1) hx hb dX3_fixedSize_12 (by decide) ?_
      refine lv_goto (tgt := 17) hx hb dX3_fixedSize_13 (by decide) ?_
      refine lv_istore_n (lv' := [(2, .int (nI 1)), (0, .ref (ad 0)), (1, .int (nI x))]) hx hb dX3_fixedSize_17 rfl hl (by decide) rfl (fun ls hl => ?_)
      refine lv_iload_n hx hb dX3_fixedSize_18 rfl (lv_at hl 0 rfl) ?_
      refine zi_eq (tgt := 28) hx hb (by omega) dX3_fixedSize_19 (by decide) (fun c_19 => ?_) (fun c_19 => ?_)
      · omega
      · refine lv_aload_n hx hb dX3_fixedSize_22 rfl (lv_at hl 1 rfl) ?_
        refine lv_bipush (v := nI 14) hx hb dX3_fixedSize_23 (by decide) ?_
        have hle_25 := hS.1
        refine va_callv (va_runV (As := [.int (nI 14)]) (rest := []) ⟨hx, hb, hml, hown, hts⟩ (m_X3_began l g ad fi cn xl _ tr n 14 hc28 hf29 (by omega)) (cwV 1 hts (lw_V q1711 q1713 qs58 q69 q1714) rfl rfl rfl hdV_X3_began ⟨Nat.le_of_ble_eq_true rfl, Nat.le_of_ble_eq_true rfl⟩) (zpreV hK hN (va_recv hK hP (ci := 3) (q0 := 0) rfl rfl) ⟨rfl, hP, hD.weaken (fun _ _ _ _ => trivial)⟩) rfl rfl hl.1 rfl (lv_room (Nat.le_of_ble_eq_true rfl)) dX3_fixedSize_25 ⟨Nat.le_of_ble_eq_true rfl, Nat.le_of_ble_eq_true rfl⟩) hS (fun q _ h => mA_le hS.1 q h) (mA_le hS.1) (fun u t H locs ht hvm hw_25 hB hzz hkk hS => ?_)
        obtain ⟨hP, hD⟩ := hB
        rw [ht] at hP
        have hD := hD.weaken (fun _ _ _ h => mA_le hle_25 _ h)
        obtain ⟨_, rfl⟩ := hw_25
        have hP : va_P g.1 zCL (mW g ad (va_up fi 29 (nI (n + 1))) (va_up cn 28 (nF (va_up tr n 14))) xl) _ := hP
        have hD : va_D (mA ad s.heap.size) (mW g ad (va_up fi 29 (nI (n + 1))) (va_up cn 28 (nF (va_up tr n 14))) xl) := hD
        refine lv_aload_n hx hb dX3_fixedSize_28 rfl (lv_at hl 1 rfl) ?_
        refine lv_bipush (v := nI 13) hx hb dX3_fixedSize_29 (by decide) ?_
        have hle_31 := hS.1
        refine va_callv (va_runV (As := [.int (nI 13)]) (rest := []) ⟨hx, hb, hml, hown, hts⟩ (m_X3_began l g ad (va_up fi 29 (nI (n + 1))) (va_up cn 28 (nF (va_up tr n 14))) xl _ (va_up tr n 14) (n + 1) 13 rfl rfl (by omega)) (cwV 1 hts (lw_V q1711 q1713 qs58 q69 q1714) rfl rfl rfl hdV_X3_began ⟨Nat.le_of_ble_eq_true rfl, Nat.le_of_ble_eq_true rfl⟩) (zpreV hK hN (va_recv hK hP (ci := 3) (q0 := 0) rfl rfl) ⟨rfl, hP, hD.weaken (fun _ _ _ _ => trivial)⟩) rfl rfl hl.1 rfl (lv_room (Nat.le_of_ble_eq_true rfl)) dX3_fixedSize_31 ⟨Nat.le_of_ble_eq_true rfl, Nat.le_of_ble_eq_true rfl⟩) hS (fun q _ h => mA_le hS.1 q h) (mA_le hS.1) (fun u t H locs ht hvm hw_31 hB hzz hkk hS => ?_)
        obtain ⟨hP, hD⟩ := hB
        rw [ht] at hP
        have hD := hD.weaken (fun _ _ _ h => mA_le hle_31 _ h)
        obtain ⟨_, rfl⟩ := hw_31
        have hP : va_P g.1 zCL (mW g ad (va_up fi 29 (nI (n + 1 + 1))) (va_up cn 28 (nF (va_up (va_up tr n 14) (n + 1) 13))) xl) _ := hP
        have hD : va_D (mA ad s.heap.size) (mW g ad (va_up fi 29 (nI (n + 1 + 1))) (va_up cn 28 (nF (va_up (va_up tr n 14) (n + 1) 13))) xl) := hD
        refine lv_aload_n hx hb dX3_fixedSize_34 rfl (lv_at hl 1 rfl) ?_
        refine lv_iload_n hx hb dX3_fixedSize_35 rfl (lv_at hl 2 rfl) ?_
        have hle_36 := hS.1
        refine va_calli (va_runV (As := [.int (nI x)]) (rest := []) ⟨hx, hb, hml, hown, hts⟩ (m_X3_lentSize l g ad (va_up fi 29 (nI (n + 1 + 1))) (va_up cn 28 (nF (va_up (va_up tr n 14) (n + 1) 13))) xl _ B (va_up (va_up tr n 14) (n + 1) 13) (n + 1 + 1) hc4 rfl rfl hB x (by omega) (by omega)) (cwV 1 hts (lw_V q1715 q1717 qs59 q69 q1718) rfl rfl rfl hdV_X3_lentSize ⟨Nat.le_of_ble_eq_true rfl, Nat.le_of_ble_eq_true rfl⟩) (zpreV hK hN (va_recv hK hP (ci := 3) (q0 := 0) rfl rfl) ⟨rfl, hP, hD.weaken (fun _ _ _ _ => trivial)⟩) rfl rfl hl.1 rfl (lv_room (Nat.le_of_ble_eq_true rfl)) dX3_fixedSize_36 ⟨Nat.le_of_ble_eq_true rfl, Nat.le_of_ble_eq_true rfl⟩) hS (fun q _ h => mA_le hS.1 q h) (mA_le hS.1) (fun r_36 u t H locs ht hvm hw_36 hB hzz hkk hS => ?_)
        obtain ⟨hP, hD⟩ := hB
        rw [ht] at hP
        have hD := hD.weaken (fun _ _ _ h => mA_le hle_36 _ h)
        obtain ⟨rfl, rfl⟩ := hw_36
        have hP : va_P g.1 zCL (mW g ad (va_up fi 29 (nI (n + 1 + 1 + 1))) (va_up cn 28 (nF (va_up (va_up (va_up tr n 14) (n + 1) 13) (n + 1 + 1) 10))) xl) _ := hP
        have hD : va_D (mA ad s.heap.size) (mW g ad (va_up fi 29 (nI (n + 1 + 1 + 1))) (va_up cn 28 (nF (va_up (va_up (va_up tr n 14) (n + 1) 13) (n + 1 + 1) 10))) xl) := hD
        refine lv_bipush (v := nI 100) hx hb dX3_fixedSize_39 (by decide) ?_
        refine lv_isub hx hb dX3_fixedSize_41 ?_
        refine lv_istore_n (lv' := [(3, .int ((nI (B (12 + 8 * x + 1))) - (nI 100))), (2, .int (nI 1)), (0, .ref (ad 0)), (1, .int (nI x))]) hx hb dX3_fixedSize_42 rfl hl (by decide) rfl (fun ls hl => ?_)
        refine lv_iload_n hx hb dX3_fixedSize_43 rfl (lv_at hl 1 rfl) ?_
        refine zi_eq (tgt := 53) hx hb (by omega) dX3_fixedSize_44 (by decide) (fun c_44 => ?_) (fun c_44 => ?_)
        · omega
        · refine lv_iconst (v := nI 2) hx hb dX3_fixedSize_47 (by decide) ?_
          refine lv_iload_n hx hb dX3_fixedSize_48 rfl (lv_at hl 0 rfl) ?_
          refine lv_imul hx hb dX3_fixedSize_49 ?_
          refine lv_goto (tgt := 54) hx hb dX3_fixedSize_50 (by decide) ?_
          exact W.iret (v := (nI 2) * ((nI (B (12 + 8 * x + 1))) - (nI 100))) hx hb hr (fun t ht hW => ⟨⟨(nI 2) * ((nI (B (12 + 8 * x + 1))) - (nI 100)), (va_up fi 29 (nI (n + 1 + 1 + 1)), va_up cn 28 (nF (va_up (va_up (va_up tr n 14) (n + 1) 13) (n + 1 + 1) 10)), xl), rfl, ⟨rfl, rfl⟩, by rw [ht]; exact hP, hD⟩, hS.F ht⟩) hS.2.2 dX3_fixedSize_54

set_option maxHeartbeats 4000000 in
set_option maxRecDepth 100000 in
theorem m_X3_markOf (l : Launch) (g : zG) (ad : Nat → Nat) (fi : Nat → Int32) (cn : Nat → Nat → Int32) (xl : Nat → Nat → Int64) (sz : Nat) (B tr : Nat → Nat) (n : Nat) (hc4 : cn 4 = nF B) (hc28 : cn 28 = nF tr) (hf29 : fi 29 = nI n) (hB : bOK B) (x : Nat) (hx0 : x < B 0) (kd : Nat) (hkd : bkd B x = kd) (hdm : kd = 1 ∨ kd = 2 ∨ kd = 3 ∨ kd = 4 ∨ kd = 5) (hnm : n ≤ 10) : Met l yX3_markOf (ws_ yX3_markOf cX3_markOf 4 (some .int)) ({ frames := 3, cells := 0, slots := 0, locals := 65 }) (zPc g [.ref (ad 0), .int (nI x)] (mH g ad fi cn xl sz)) (va_Qi (fun r9 u => r9 = bmkv kd B x ∧ u = (va_up fi 29 (nI (n + (bmkl kd).length)), va_up cn 28 (nF (btl tr n (bmkl kd))), xl)) (mB g ad sz) (mA ad sz)) 0 0 (mA ad sz) := by
  refine Met.ofW (cc := cX3_markOf) (maxL := 4) (ret := (some .int)) (by decide) rfl ?_
  intro p e s m args below meth c s₁ B0 hml hv
  obtain ⟨rfl, ⟨hK, hN⟩, hsz, hP, hD⟩ := hv
  have hx := B0.exec
  have hb := B0.bytes
  have hr := B0.returns
  have hts := atoms_spec (ws := ws_ yX3_markOf cX3_markOf 4 (some .int)) B0.pre
  have hts : ∀ w ∈ lw_all, w.before _ s = true := fun w h => hts w (List.mem_cons_of_mem _ h)
  have hown : s.vm.findClass RX3 = some m.cls := findClass_of_methodNamed B0.named
  have hlocks := B0.notSynchronized
  subst hsz
  have hD := mD_self s.heap.size hD
  have hS : va_S (mA ad s.heap.size) s.heap s.heap [] := va_S.rf
  have hl := lv_entry ([.ref (ad 0), .int (nI x)]) (n := 4) (Nat.le_of_ble_eq_true rfl)
  rw [lg_entry_eq]
  generalize (lg_sl ([.ref (ad 0), .int (nI x)]) ++ List.replicate (4 - (lg_sl ([.ref (ad 0), .int (nI x)])).length) Slot.unset).toArray = ls at hl ⊢
  have hl : lv_has ls 4 [(0, .ref (ad 0)), (1, .int (nI x))] := hl
  have h0 : B 0 ≤ 4 := hB.n4
  have h3 : B 3 ≤ 8 := hB.r8
  rcases hdm with rfl | rfl | rfl | rfl | rfl
  · have hxw := (hB.wl hx0).2
    refine lv_aload_n hx hb dX3_markOf_0 rfl (lv_at hl 0 rfl) ?_
    refine va_get (D := g.1) (ci := 3) (v := .ref (ad 4)) (C := RX3) (T := TX3) (N := 30) hx hb hts in_X3 hown hK hP 0 rfl rfl 4 (by decide) (hts _ q1301) (fun _ h9 => h9) rfl dX3_markOf_1 ?_
    refine lv_iload_n hx hb dX3_markOf_4 rfl (lv_at hl 1 rfl) ?_
    have hQ_5 : va_P g.1 zCL [(ad 4, .inl (g.2 0, 44, .inl (cn 4)))] _ := hP.sub [4] rfl
    rw [show _ = _ from hc4] at hQ_5
    refine vp_callSi (W.runS (As := [.ref (ad 4), .int (nI x)]) (rest := []) ⟨hx, hb, hml, hown, hts⟩ (m_X3_kindOf l g (ad 4) B x (by omega)) (va_cwS 2 hts (lw_S q1510 q1511 q69 q1512) rfl rfl rfl hdS_X3_kindOf ⟨Nat.le_of_ble_eq_true rfl, Nat.le_of_ble_eq_true rfl⟩) (zpreS hK hN hQ_5) rfl rfl hl.1 rfl (lv_room (Nat.le_of_ble_eq_true rfl)) dX3_markOf_5 ⟨Nat.le_of_ble_eq_true rfl, Nat.le_of_ble_eq_true rfl⟩) (fun r_5 hr_5 => ?_)
    subst hr_5
    refine zti (show _ = nI 1 from congrArg nI hkd) ?_
    refine lv_istore_n (lv' := [(2, .int (nI 1)), (0, .ref (ad 0)), (1, .int (nI x))]) hx hb dX3_markOf_8 rfl hl (by decide) rfl (fun ls hl => ?_)
    refine lv_iload_n hx hb dX3_markOf_9 rfl (lv_at hl 0 rfl) ?_
    refine lv_iconst (v := nI 4) hx hb dX3_markOf_10 (by decide) ?_
    refine zc_lt (tgt := 34) hx hb (by omega) (by omega) dX3_markOf_11 (by decide) (fun c_11 => ?_) (fun c_11 => ?_)
    · refine lv_iload_n hx hb dX3_markOf_34 rfl (lv_at hl 0 rfl) ?_
      refine lv_iconst (v := nI 1) hx hb dX3_markOf_35 (by decide) ?_
      refine zc_eq (tgt := 55) hx hb (by omega) (by omega) dX3_markOf_36 (by decide) (fun c_36 => ?_) (fun c_36 => ?_)
      · refine lv_aload_n hx hb dX3_markOf_55 rfl (lv_at hl 1 rfl) ?_
        refine lv_bipush (v := nI 21) hx hb dX3_markOf_56 (by decide) ?_
        have hle_58 := hS.1
        refine va_callv (va_runV (As := [.int (nI 21)]) (rest := []) ⟨hx, hb, hml, hown, hts⟩ (m_X3_began l g ad fi cn xl _ tr n 21 hc28 hf29 (by omega)) (cwV 1 hts (lw_V q1711 q1713 qs58 q69 q1714) rfl rfl rfl hdV_X3_began ⟨Nat.le_of_ble_eq_true rfl, Nat.le_of_ble_eq_true rfl⟩) (zpreV hK hN (va_recv hK hP (ci := 3) (q0 := 0) rfl rfl) ⟨rfl, hP, hD.weaken (fun _ _ _ _ => trivial)⟩) rfl rfl hl.1 rfl (lv_room (Nat.le_of_ble_eq_true rfl)) dX3_markOf_58 ⟨Nat.le_of_ble_eq_true rfl, Nat.le_of_ble_eq_true rfl⟩) hS (fun q _ h => mA_le hS.1 q h) (mA_le hS.1) (fun u t H locs ht hvm hw_58 hB hzz hkk hS => ?_)
        obtain ⟨hP, hD⟩ := hB
        rw [ht] at hP
        have hD := hD.weaken (fun _ _ _ h => mA_le hle_58 _ h)
        obtain ⟨_, rfl⟩ := hw_58
        have hP : va_P g.1 zCL (mW g ad (va_up fi 29 (nI (n + 1))) (va_up cn 28 (nF (va_up tr n 21))) xl) _ := hP
        have hD : va_D (mA ad s.heap.size) (mW g ad (va_up fi 29 (nI (n + 1))) (va_up cn 28 (nF (va_up tr n 21))) xl) := hD
        refine lv_aload_n hx hb dX3_markOf_61 rfl (lv_at hl 1 rfl) ?_
        refine lv_bipush (v := nI 20) hx hb dX3_markOf_62 (by decide) ?_
        have hle_64 := hS.1
        refine va_callv (va_runV (As := [.int (nI 20)]) (rest := []) ⟨hx, hb, hml, hown, hts⟩ (m_X3_began l g ad (va_up fi 29 (nI (n + 1))) (va_up cn 28 (nF (va_up tr n 21))) xl _ (va_up tr n 21) (n + 1) 20 rfl rfl (by omega)) (cwV 1 hts (lw_V q1711 q1713 qs58 q69 q1714) rfl rfl rfl hdV_X3_began ⟨Nat.le_of_ble_eq_true rfl, Nat.le_of_ble_eq_true rfl⟩) (zpreV hK hN (va_recv hK hP (ci := 3) (q0 := 0) rfl rfl) ⟨rfl, hP, hD.weaken (fun _ _ _ _ => trivial)⟩) rfl rfl hl.1 rfl (lv_room (Nat.le_of_ble_eq_true rfl)) dX3_markOf_64 ⟨Nat.le_of_ble_eq_true rfl, Nat.le_of_ble_eq_true rfl⟩) hS (fun q _ h => mA_le hS.1 q h) (mA_le hS.1) (fun u t H locs ht hvm hw_64 hB hzz hkk hS => ?_)
        obtain ⟨hP, hD⟩ := hB
        rw [ht] at hP
        have hD := hD.weaken (fun _ _ _ h => mA_le hle_64 _ h)
        obtain ⟨_, rfl⟩ := hw_64
        have hP : va_P g.1 zCL (mW g ad (va_up fi 29 (nI (n + 1 + 1))) (va_up cn 28 (nF (va_up (va_up tr n 21) (n + 1) 20))) xl) _ := hP
        have hD : va_D (mA ad s.heap.size) (mW g ad (va_up fi 29 (nI (n + 1 + 1))) (va_up cn 28 (nF (va_up (va_up tr n 21) (n + 1) 20))) xl) := hD
        refine lv_iload_n hx hb dX3_markOf_67 rfl (lv_at hl 2 rfl) ?_
        refine lv_aload_n hx hb dX3_markOf_68 rfl (lv_at hl 1 rfl) ?_
        refine va_get (D := g.1) (ci := 3) (v := .ref (ad 4)) (C := RX3) (T := TX3) (N := 30) hx hb hts in_X3 hown hK hP 0 rfl rfl 4 (by decide) (hts _ q1301) (fun _ h9 => h9) rfl dX3_markOf_69 ?_
        refine lv_iload_n hx hb dX3_markOf_72 rfl (lv_at hl 2 rfl) ?_
        have hQ_73 : va_P g.1 zCL [(ad 4, .inl (g.2 0, 44, .inl (cn 4)))] _ := hP.sub [4] rfl
        rw [show _ = _ from hc4] at hQ_73
        refine vp_callSi (W.runS (As := [.ref (ad 4), .int (nI x)]) (rest := [.int (nI x)]) ⟨hx, hb, hml, hown, hts⟩ (m_X3_wordSize l g (ad 4) B x (by omega)) (va_cwS 2 hts (lw_S q1497 q1498 q69 q1499) rfl rfl rfl hdS_X3_wordSize ⟨Nat.le_of_ble_eq_true rfl, Nat.le_of_ble_eq_true rfl⟩) (zpreS hK hN hQ_73) rfl rfl hl.1 rfl (lv_room (Nat.le_of_ble_eq_true rfl)) dX3_markOf_73 ⟨Nat.le_of_ble_eq_true rfl, Nat.le_of_ble_eq_true rfl⟩) (fun r_73 hr_73 => ?_)
        subst hr_73
        refine lv_iadd hx hb dX3_markOf_76 ?_
        refine zti (nI_add x (bwl B x)) ?_
        refine lv_istore_n (lv' := [(3, .int (nI (x + bwl B x))), (2, .int (nI 1)), (0, .ref (ad 0)), (1, .int (nI x))]) hx hb dX3_markOf_77 rfl hl (by decide) rfl (fun ls hl => ?_)
        refine lv_iload_n hx hb dX3_markOf_78 rfl (lv_at hl 1 rfl) ?_
        refine lv_iconst (v := nI 1) hx hb dX3_markOf_79 (by decide) ?_
        refine zc_ne (tgt := 87) hx hb (by omega) (by omega) dX3_markOf_80 (by decide) (fun c_80 => ?_) (fun c_80 => ?_)
        · omega
        · refine lv_iload_n hx hb dX3_markOf_83 rfl (lv_at hl 0 rfl) ?_
          refine lv_goto (tgt := 103) hx hb dX3_markOf_84 (by decide) ?_
          exact W.iret (v := nI (x + bwl B x)) hx hb hr (fun t ht hW => ⟨⟨nI (x + bwl B x), (va_up fi 29 (nI (n + 1 + 1)), va_up cn 28 (nF (va_up (va_up tr n 21) (n + 1) 20)), xl), rfl, ⟨rfl, rfl⟩, by rw [ht]; exact hP, hD⟩, hS.F ht⟩) hS.2.2 dX3_markOf_103
      · omega
    · omega
  · have hxw := (hB.wl hx0).2
    refine lv_aload_n hx hb dX3_markOf_0 rfl (lv_at hl 0 rfl) ?_
    refine va_get (D := g.1) (ci := 3) (v := .ref (ad 4)) (C := RX3) (T := TX3) (N := 30) hx hb hts in_X3 hown hK hP 0 rfl rfl 4 (by decide) (hts _ q1301) (fun _ h9 => h9) rfl dX3_markOf_1 ?_
    refine lv_iload_n hx hb dX3_markOf_4 rfl (lv_at hl 1 rfl) ?_
    have hQ_5 : va_P g.1 zCL [(ad 4, .inl (g.2 0, 44, .inl (cn 4)))] _ := hP.sub [4] rfl
    rw [show _ = _ from hc4] at hQ_5
    refine vp_callSi (W.runS (As := [.ref (ad 4), .int (nI x)]) (rest := []) ⟨hx, hb, hml, hown, hts⟩ (m_X3_kindOf l g (ad 4) B x (by omega)) (va_cwS 2 hts (lw_S q1510 q1511 q69 q1512) rfl rfl rfl hdS_X3_kindOf ⟨Nat.le_of_ble_eq_true rfl, Nat.le_of_ble_eq_true rfl⟩) (zpreS hK hN hQ_5) rfl rfl hl.1 rfl (lv_room (Nat.le_of_ble_eq_true rfl)) dX3_markOf_5 ⟨Nat.le_of_ble_eq_true rfl, Nat.le_of_ble_eq_true rfl⟩) (fun r_5 hr_5 => ?_)
    subst hr_5
    refine zti (show _ = nI 2 from congrArg nI hkd) ?_
    refine lv_istore_n (lv' := [(2, .int (nI 2)), (0, .ref (ad 0)), (1, .int (nI x))]) hx hb dX3_markOf_8 rfl hl (by decide) rfl (fun ls hl => ?_)
    refine lv_iload_n hx hb dX3_markOf_9 rfl (lv_at hl 0 rfl) ?_
    refine lv_iconst (v := nI 4) hx hb dX3_markOf_10 (by decide) ?_
    refine zc_lt (tgt := 34) hx hb (by omega) (by omega) dX3_markOf_11 (by decide) (fun c_11 => ?_) (fun c_11 => ?_)
    · refine lv_iload_n hx hb dX3_markOf_34 rfl (lv_at hl 0 rfl) ?_
      refine lv_iconst (v := nI 1) hx hb dX3_markOf_35 (by decide) ?_
      refine zc_eq (tgt := 55) hx hb (by omega) (by omega) dX3_markOf_36 (by decide) (fun c_36 => ?_) (fun c_36 => ?_)
      · omega
      · refine lv_aload_n hx hb dX3_markOf_39 rfl (lv_at hl 1 rfl) ?_
        refine lv_iload_n hx hb dX3_markOf_40 rfl (lv_at hl 0 rfl) ?_
        refine lv_iconst (v := nI 3) hx hb dX3_markOf_41 (by decide) ?_
        refine zc_ne (tgt := 50) hx hb (by omega) (by omega) dX3_markOf_42 (by decide) (fun c_42 => ?_) (fun c_42 => ?_)
        · refine lv_bipush (v := nI 24) hx hb dX3_markOf_50 (by decide) ?_
          have hle_52 := hS.1
          refine va_callv (va_runV (As := [.int (nI 24)]) (rest := []) ⟨hx, hb, hml, hown, hts⟩ (m_X3_began l g ad fi cn xl _ tr n 24 hc28 hf29 (by omega)) (cwV 1 hts (lw_V q1711 q1713 qs58 q69 q1714) rfl rfl rfl hdV_X3_began ⟨Nat.le_of_ble_eq_true rfl, Nat.le_of_ble_eq_true rfl⟩) (zpreV hK hN (va_recv hK hP (ci := 3) (q0 := 0) rfl rfl) ⟨rfl, hP, hD.weaken (fun _ _ _ _ => trivial)⟩) rfl rfl hl.1 rfl (lv_room (Nat.le_of_ble_eq_true rfl)) dX3_markOf_52 ⟨Nat.le_of_ble_eq_true rfl, Nat.le_of_ble_eq_true rfl⟩) hS (fun q _ h => mA_le hS.1 q h) (mA_le hS.1) (fun u t H locs ht hvm hw_52 hB hzz hkk hS => ?_)
          obtain ⟨hP, hD⟩ := hB
          rw [ht] at hP
          have hD := hD.weaken (fun _ _ _ h => mA_le hle_52 _ h)
          obtain ⟨_, rfl⟩ := hw_52
          have hP : va_P g.1 zCL (mW g ad (va_up fi 29 (nI (n + 1))) (va_up cn 28 (nF (va_up tr n 24))) xl) _ := hP
          have hD : va_D (mA ad s.heap.size) (mW g ad (va_up fi 29 (nI (n + 1))) (va_up cn 28 (nF (va_up tr n 24))) xl) := hD
          refine lv_aload_n hx hb dX3_markOf_55 rfl (lv_at hl 1 rfl) ?_
          refine lv_bipush (v := nI 21) hx hb dX3_markOf_56 (by decide) ?_
          have hle_58 := hS.1
          refine va_callv (va_runV (As := [.int (nI 21)]) (rest := []) ⟨hx, hb, hml, hown, hts⟩ (m_X3_began l g ad (va_up fi 29 (nI (n + 1))) (va_up cn 28 (nF (va_up tr n 24))) xl _ (va_up tr n 24) (n + 1) 21 rfl rfl (by omega)) (cwV 1 hts (lw_V q1711 q1713 qs58 q69 q1714) rfl rfl rfl hdV_X3_began ⟨Nat.le_of_ble_eq_true rfl, Nat.le_of_ble_eq_true rfl⟩) (zpreV hK hN (va_recv hK hP (ci := 3) (q0 := 0) rfl rfl) ⟨rfl, hP, hD.weaken (fun _ _ _ _ => trivial)⟩) rfl rfl hl.1 rfl (lv_room (Nat.le_of_ble_eq_true rfl)) dX3_markOf_58 ⟨Nat.le_of_ble_eq_true rfl, Nat.le_of_ble_eq_true rfl⟩) hS (fun q _ h => mA_le hS.1 q h) (mA_le hS.1) (fun u t H locs ht hvm hw_58 hB hzz hkk hS => ?_)
          obtain ⟨hP, hD⟩ := hB
          rw [ht] at hP
          have hD := hD.weaken (fun _ _ _ h => mA_le hle_58 _ h)
          obtain ⟨_, rfl⟩ := hw_58
          have hP : va_P g.1 zCL (mW g ad (va_up fi 29 (nI (n + 1 + 1))) (va_up cn 28 (nF (va_up (va_up tr n 24) (n + 1) 21))) xl) _ := hP
          have hD : va_D (mA ad s.heap.size) (mW g ad (va_up fi 29 (nI (n + 1 + 1))) (va_up cn 28 (nF (va_up (va_up tr n 24) (n + 1) 21))) xl) := hD
          refine lv_aload_n hx hb dX3_markOf_61 rfl (lv_at hl 1 rfl) ?_
          refine lv_bipush (v := nI 20) hx hb dX3_markOf_62 (by decide) ?_
          have hle_64 := hS.1
          refine va_callv (va_runV (As := [.int (nI 20)]) (rest := []) ⟨hx, hb, hml, hown, hts⟩ (m_X3_began l g ad (va_up fi 29 (nI (n + 1 + 1))) (va_up cn 28 (nF (va_up (va_up tr n 24) (n + 1) 21))) xl _ (va_up (va_up tr n 24) (n + 1) 21) (n + 1 + 1) 20 rfl rfl (by omega)) (cwV 1 hts (lw_V q1711 q1713 qs58 q69 q1714) rfl rfl rfl hdV_X3_began ⟨Nat.le_of_ble_eq_true rfl, Nat.le_of_ble_eq_true rfl⟩) (zpreV hK hN (va_recv hK hP (ci := 3) (q0 := 0) rfl rfl) ⟨rfl, hP, hD.weaken (fun _ _ _ _ => trivial)⟩) rfl rfl hl.1 rfl (lv_room (Nat.le_of_ble_eq_true rfl)) dX3_markOf_64 ⟨Nat.le_of_ble_eq_true rfl, Nat.le_of_ble_eq_true rfl⟩) hS (fun q _ h => mA_le hS.1 q h) (mA_le hS.1) (fun u t H locs ht hvm hw_64 hB hzz hkk hS => ?_)
          obtain ⟨hP, hD⟩ := hB
          rw [ht] at hP
          have hD := hD.weaken (fun _ _ _ h => mA_le hle_64 _ h)
          obtain ⟨_, rfl⟩ := hw_64
          have hP : va_P g.1 zCL (mW g ad (va_up fi 29 (nI (n + 1 + 1 + 1))) (va_up cn 28 (nF (va_up (va_up (va_up tr n 24) (n + 1) 21) (n + 1 + 1) 20))) xl) _ := hP
          have hD : va_D (mA ad s.heap.size) (mW g ad (va_up fi 29 (nI (n + 1 + 1 + 1))) (va_up cn 28 (nF (va_up (va_up (va_up tr n 24) (n + 1) 21) (n + 1 + 1) 20))) xl) := hD
          refine lv_iload_n hx hb dX3_markOf_67 rfl (lv_at hl 2 rfl) ?_
          refine lv_aload_n hx hb dX3_markOf_68 rfl (lv_at hl 1 rfl) ?_
          refine va_get (D := g.1) (ci := 3) (v := .ref (ad 4)) (C := RX3) (T := TX3) (N := 30) hx hb hts in_X3 hown hK hP 0 rfl rfl 4 (by decide) (hts _ q1301) (fun _ h9 => h9) rfl dX3_markOf_69 ?_
          refine lv_iload_n hx hb dX3_markOf_72 rfl (lv_at hl 2 rfl) ?_
          have hQ_73 : va_P g.1 zCL [(ad 4, .inl (g.2 0, 44, .inl (cn 4)))] _ := hP.sub [4] rfl
          rw [show _ = _ from hc4] at hQ_73
          refine vp_callSi (W.runS (As := [.ref (ad 4), .int (nI x)]) (rest := [.int (nI x)]) ⟨hx, hb, hml, hown, hts⟩ (m_X3_wordSize l g (ad 4) B x (by omega)) (va_cwS 2 hts (lw_S q1497 q1498 q69 q1499) rfl rfl rfl hdS_X3_wordSize ⟨Nat.le_of_ble_eq_true rfl, Nat.le_of_ble_eq_true rfl⟩) (zpreS hK hN hQ_73) rfl rfl hl.1 rfl (lv_room (Nat.le_of_ble_eq_true rfl)) dX3_markOf_73 ⟨Nat.le_of_ble_eq_true rfl, Nat.le_of_ble_eq_true rfl⟩) (fun r_73 hr_73 => ?_)
          subst hr_73
          refine lv_iadd hx hb dX3_markOf_76 ?_
          refine zti (nI_add x (bwl B x)) ?_
          refine lv_istore_n (lv' := [(3, .int (nI (x + bwl B x))), (2, .int (nI 2)), (0, .ref (ad 0)), (1, .int (nI x))]) hx hb dX3_markOf_77 rfl hl (by decide) rfl (fun ls hl => ?_)
          refine lv_iload_n hx hb dX3_markOf_78 rfl (lv_at hl 1 rfl) ?_
          refine lv_iconst (v := nI 1) hx hb dX3_markOf_79 (by decide) ?_
          refine zc_ne (tgt := 87) hx hb (by omega) (by omega) dX3_markOf_80 (by decide) (fun c_80 => ?_) (fun c_80 => ?_)
          · refine lv_iload_n hx hb dX3_markOf_87 rfl (lv_at hl 1 rfl) ?_
            refine lv_iconst (v := nI 3) hx hb dX3_markOf_88 (by decide) ?_
            refine zc_ne (tgt := 100) hx hb (by omega) (by omega) dX3_markOf_89 (by decide) (fun c_89 => ?_) (fun c_89 => ?_)
            · refine lv_iconst (v := nI 2) hx hb dX3_markOf_100 (by decide) ?_
              refine lv_iload_n hx hb dX3_markOf_101 rfl (lv_at hl 0 rfl) ?_
              refine lv_imul hx hb dX3_markOf_102 ?_
              refine zti (pk_mul 2 (x + bwl B x)) ?_
              exact W.iret (v := nI (2 * (x + bwl B x))) hx hb hr (fun t ht hW => ⟨⟨nI (2 * (x + bwl B x)), (va_up fi 29 (nI (n + 1 + 1 + 1)), va_up cn 28 (nF (va_up (va_up (va_up tr n 24) (n + 1) 21) (n + 1 + 1) 20)), xl), rfl, ⟨rfl, rfl⟩, by rw [ht]; exact hP, hD⟩, hS.F ht⟩) hS.2.2 dX3_markOf_103
            · omega
          · omega
        · omega
    · omega
  · have hxw := (hB.wl hx0).2
    refine lv_aload_n hx hb dX3_markOf_0 rfl (lv_at hl 0 rfl) ?_
    refine va_get (D := g.1) (ci := 3) (v := .ref (ad 4)) (C := RX3) (T := TX3) (N := 30) hx hb hts in_X3 hown hK hP 0 rfl rfl 4 (by decide) (hts _ q1301) (fun _ h9 => h9) rfl dX3_markOf_1 ?_
    refine lv_iload_n hx hb dX3_markOf_4 rfl (lv_at hl 1 rfl) ?_
    have hQ_5 : va_P g.1 zCL [(ad 4, .inl (g.2 0, 44, .inl (cn 4)))] _ := hP.sub [4] rfl
    rw [show _ = _ from hc4] at hQ_5
    refine vp_callSi (W.runS (As := [.ref (ad 4), .int (nI x)]) (rest := []) ⟨hx, hb, hml, hown, hts⟩ (m_X3_kindOf l g (ad 4) B x (by omega)) (va_cwS 2 hts (lw_S q1510 q1511 q69 q1512) rfl rfl rfl hdS_X3_kindOf ⟨Nat.le_of_ble_eq_true rfl, Nat.le_of_ble_eq_true rfl⟩) (zpreS hK hN hQ_5) rfl rfl hl.1 rfl (lv_room (Nat.le_of_ble_eq_true rfl)) dX3_markOf_5 ⟨Nat.le_of_ble_eq_true rfl, Nat.le_of_ble_eq_true rfl⟩) (fun r_5 hr_5 => ?_)
    subst hr_5
    refine zti (show _ = nI 3 from congrArg nI hkd) ?_
    refine lv_istore_n (lv' := [(2, .int (nI 3)), (0, .ref (ad 0)), (1, .int (nI x))]) hx hb dX3_markOf_8 rfl hl (by decide) rfl (fun ls hl => ?_)
    refine lv_iload_n hx hb dX3_markOf_9 rfl (lv_at hl 0 rfl) ?_
    refine lv_iconst (v := nI 4) hx hb dX3_markOf_10 (by decide) ?_
    refine zc_lt (tgt := 34) hx hb (by omega) (by omega) dX3_markOf_11 (by decide) (fun c_11 => ?_) (fun c_11 => ?_)
    · refine lv_iload_n hx hb dX3_markOf_34 rfl (lv_at hl 0 rfl) ?_
      refine lv_iconst (v := nI 1) hx hb dX3_markOf_35 (by decide) ?_
      refine zc_eq (tgt := 55) hx hb (by omega) (by omega) dX3_markOf_36 (by decide) (fun c_36 => ?_) (fun c_36 => ?_)
      · omega
      · refine lv_aload_n hx hb dX3_markOf_39 rfl (lv_at hl 1 rfl) ?_
        refine lv_iload_n hx hb dX3_markOf_40 rfl (lv_at hl 0 rfl) ?_
        refine lv_iconst (v := nI 3) hx hb dX3_markOf_41 (by decide) ?_
        refine zc_ne (tgt := 50) hx hb (by omega) (by omega) dX3_markOf_42 (by decide) (fun c_42 => ?_) (fun c_42 => ?_)
        · omega
        · refine lv_bipush (v := nI 22) hx hb dX3_markOf_45 (by decide) ?_
          refine lv_goto (tgt := 52) hx hb dX3_markOf_47 (by decide) ?_
          have hle_52 := hS.1
          refine va_callv (va_runV (As := [.int (nI 22)]) (rest := []) ⟨hx, hb, hml, hown, hts⟩ (m_X3_began l g ad fi cn xl _ tr n 22 hc28 hf29 (by omega)) (cwV 1 hts (lw_V q1711 q1713 qs58 q69 q1714) rfl rfl rfl hdV_X3_began ⟨Nat.le_of_ble_eq_true rfl, Nat.le_of_ble_eq_true rfl⟩) (zpreV hK hN (va_recv hK hP (ci := 3) (q0 := 0) rfl rfl) ⟨rfl, hP, hD.weaken (fun _ _ _ _ => trivial)⟩) rfl rfl hl.1 rfl (lv_room (Nat.le_of_ble_eq_true rfl)) dX3_markOf_52 ⟨Nat.le_of_ble_eq_true rfl, Nat.le_of_ble_eq_true rfl⟩) hS (fun q _ h => mA_le hS.1 q h) (mA_le hS.1) (fun u t H locs ht hvm hw_52 hB hzz hkk hS => ?_)
          obtain ⟨hP, hD⟩ := hB
          rw [ht] at hP
          have hD := hD.weaken (fun _ _ _ h => mA_le hle_52 _ h)
          obtain ⟨_, rfl⟩ := hw_52
          have hP : va_P g.1 zCL (mW g ad (va_up fi 29 (nI (n + 1))) (va_up cn 28 (nF (va_up tr n 22))) xl) _ := hP
          have hD : va_D (mA ad s.heap.size) (mW g ad (va_up fi 29 (nI (n + 1))) (va_up cn 28 (nF (va_up tr n 22))) xl) := hD
          refine lv_aload_n hx hb dX3_markOf_55 rfl (lv_at hl 1 rfl) ?_
          refine lv_bipush (v := nI 21) hx hb dX3_markOf_56 (by decide) ?_
          have hle_58 := hS.1
          refine va_callv (va_runV (As := [.int (nI 21)]) (rest := []) ⟨hx, hb, hml, hown, hts⟩ (m_X3_began l g ad (va_up fi 29 (nI (n + 1))) (va_up cn 28 (nF (va_up tr n 22))) xl _ (va_up tr n 22) (n + 1) 21 rfl rfl (by omega)) (cwV 1 hts (lw_V q1711 q1713 qs58 q69 q1714) rfl rfl rfl hdV_X3_began ⟨Nat.le_of_ble_eq_true rfl, Nat.le_of_ble_eq_true rfl⟩) (zpreV hK hN (va_recv hK hP (ci := 3) (q0 := 0) rfl rfl) ⟨rfl, hP, hD.weaken (fun _ _ _ _ => trivial)⟩) rfl rfl hl.1 rfl (lv_room (Nat.le_of_ble_eq_true rfl)) dX3_markOf_58 ⟨Nat.le_of_ble_eq_true rfl, Nat.le_of_ble_eq_true rfl⟩) hS (fun q _ h => mA_le hS.1 q h) (mA_le hS.1) (fun u t H locs ht hvm hw_58 hB hzz hkk hS => ?_)
          obtain ⟨hP, hD⟩ := hB
          rw [ht] at hP
          have hD := hD.weaken (fun _ _ _ h => mA_le hle_58 _ h)
          obtain ⟨_, rfl⟩ := hw_58
          have hP : va_P g.1 zCL (mW g ad (va_up fi 29 (nI (n + 1 + 1))) (va_up cn 28 (nF (va_up (va_up tr n 22) (n + 1) 21))) xl) _ := hP
          have hD : va_D (mA ad s.heap.size) (mW g ad (va_up fi 29 (nI (n + 1 + 1))) (va_up cn 28 (nF (va_up (va_up tr n 22) (n + 1) 21))) xl) := hD
          refine lv_aload_n hx hb dX3_markOf_61 rfl (lv_at hl 1 rfl) ?_
          refine lv_bipush (v := nI 20) hx hb dX3_markOf_62 (by decide) ?_
          have hle_64 := hS.1
          refine va_callv (va_runV (As := [.int (nI 20)]) (rest := []) ⟨hx, hb, hml, hown, hts⟩ (m_X3_began l g ad (va_up fi 29 (nI (n + 1 + 1))) (va_up cn 28 (nF (va_up (va_up tr n 22) (n + 1) 21))) xl _ (va_up (va_up tr n 22) (n + 1) 21) (n + 1 + 1) 20 rfl rfl (by omega)) (cwV 1 hts (lw_V q1711 q1713 qs58 q69 q1714) rfl rfl rfl hdV_X3_began ⟨Nat.le_of_ble_eq_true rfl, Nat.le_of_ble_eq_true rfl⟩) (zpreV hK hN (va_recv hK hP (ci := 3) (q0 := 0) rfl rfl) ⟨rfl, hP, hD.weaken (fun _ _ _ _ => trivial)⟩) rfl rfl hl.1 rfl (lv_room (Nat.le_of_ble_eq_true rfl)) dX3_markOf_64 ⟨Nat.le_of_ble_eq_true rfl, Nat.le_of_ble_eq_true rfl⟩) hS (fun q _ h => mA_le hS.1 q h) (mA_le hS.1) (fun u t H locs ht hvm hw_64 hB hzz hkk hS => ?_)
          obtain ⟨hP, hD⟩ := hB
          rw [ht] at hP
          have hD := hD.weaken (fun _ _ _ h => mA_le hle_64 _ h)
          obtain ⟨_, rfl⟩ := hw_64
          have hP : va_P g.1 zCL (mW g ad (va_up fi 29 (nI (n + 1 + 1 + 1))) (va_up cn 28 (nF (va_up (va_up (va_up tr n 22) (n + 1) 21) (n + 1 + 1) 20))) xl) _ := hP
          have hD : va_D (mA ad s.heap.size) (mW g ad (va_up fi 29 (nI (n + 1 + 1 + 1))) (va_up cn 28 (nF (va_up (va_up (va_up tr n 22) (n + 1) 21) (n + 1 + 1) 20))) xl) := hD
          refine lv_iload_n hx hb dX3_markOf_67 rfl (lv_at hl 2 rfl) ?_
          refine lv_aload_n hx hb dX3_markOf_68 rfl (lv_at hl 1 rfl) ?_
          refine va_get (D := g.1) (ci := 3) (v := .ref (ad 4)) (C := RX3) (T := TX3) (N := 30) hx hb hts in_X3 hown hK hP 0 rfl rfl 4 (by decide) (hts _ q1301) (fun _ h9 => h9) rfl dX3_markOf_69 ?_
          refine lv_iload_n hx hb dX3_markOf_72 rfl (lv_at hl 2 rfl) ?_
          have hQ_73 : va_P g.1 zCL [(ad 4, .inl (g.2 0, 44, .inl (cn 4)))] _ := hP.sub [4] rfl
          rw [show _ = _ from hc4] at hQ_73
          refine vp_callSi (W.runS (As := [.ref (ad 4), .int (nI x)]) (rest := [.int (nI x)]) ⟨hx, hb, hml, hown, hts⟩ (m_X3_wordSize l g (ad 4) B x (by omega)) (va_cwS 2 hts (lw_S q1497 q1498 q69 q1499) rfl rfl rfl hdS_X3_wordSize ⟨Nat.le_of_ble_eq_true rfl, Nat.le_of_ble_eq_true rfl⟩) (zpreS hK hN hQ_73) rfl rfl hl.1 rfl (lv_room (Nat.le_of_ble_eq_true rfl)) dX3_markOf_73 ⟨Nat.le_of_ble_eq_true rfl, Nat.le_of_ble_eq_true rfl⟩) (fun r_73 hr_73 => ?_)
          subst hr_73
          refine lv_iadd hx hb dX3_markOf_76 ?_
          refine zti (nI_add x (bwl B x)) ?_
          refine lv_istore_n (lv' := [(3, .int (nI (x + bwl B x))), (2, .int (nI 3)), (0, .ref (ad 0)), (1, .int (nI x))]) hx hb dX3_markOf_77 rfl hl (by decide) rfl (fun ls hl => ?_)
          refine lv_iload_n hx hb dX3_markOf_78 rfl (lv_at hl 1 rfl) ?_
          refine lv_iconst (v := nI 1) hx hb dX3_markOf_79 (by decide) ?_
          refine zc_ne (tgt := 87) hx hb (by omega) (by omega) dX3_markOf_80 (by decide) (fun c_80 => ?_) (fun c_80 => ?_)
          · refine lv_iload_n hx hb dX3_markOf_87 rfl (lv_at hl 1 rfl) ?_
            refine lv_iconst (v := nI 3) hx hb dX3_markOf_88 (by decide) ?_
            refine zc_ne (tgt := 100) hx hb (by omega) (by omega) dX3_markOf_89 (by decide) (fun c_89 => ?_) (fun c_89 => ?_)
            · omega
            · refine lv_iload_n hx hb dX3_markOf_92 rfl (lv_at hl 0 rfl) ?_
              refine lv_sipush (v := nI 1000) hx hb dX3_markOf_93 (by decide) ?_
              refine lv_isub hx hb dX3_markOf_96 ?_
              refine lv_goto (tgt := 103) hx hb dX3_markOf_97 (by decide) ?_
              exact W.iret (v := (nI (x + bwl B x)) - (nI 1000)) hx hb hr (fun t ht hW => ⟨⟨(nI (x + bwl B x)) - (nI 1000), (va_up fi 29 (nI (n + 1 + 1 + 1)), va_up cn 28 (nF (va_up (va_up (va_up tr n 22) (n + 1) 21) (n + 1 + 1) 20)), xl), rfl, ⟨rfl, rfl⟩, by rw [ht]; exact hP, hD⟩, hS.F ht⟩) hS.2.2 dX3_markOf_103
          · omega
    · omega
  · have hxw := (hB.wl hx0).2
    refine lv_aload_n hx hb dX3_markOf_0 rfl (lv_at hl 0 rfl) ?_
    refine va_get (D := g.1) (ci := 3) (v := .ref (ad 4)) (C := RX3) (T := TX3) (N := 30) hx hb hts in_X3 hown hK hP 0 rfl rfl 4 (by decide) (hts _ q1301) (fun _ h9 => h9) rfl dX3_markOf_1 ?_
    refine lv_iload_n hx hb dX3_markOf_4 rfl (lv_at hl 1 rfl) ?_
    have hQ_5 : va_P g.1 zCL [(ad 4, .inl (g.2 0, 44, .inl (cn 4)))] _ := hP.sub [4] rfl
    rw [show _ = _ from hc4] at hQ_5
    refine vp_callSi (W.runS (As := [.ref (ad 4), .int (nI x)]) (rest := []) ⟨hx, hb, hml, hown, hts⟩ (m_X3_kindOf l g (ad 4) B x (by omega)) (va_cwS 2 hts (lw_S q1510 q1511 q69 q1512) rfl rfl rfl hdS_X3_kindOf ⟨Nat.le_of_ble_eq_true rfl, Nat.le_of_ble_eq_true rfl⟩) (zpreS hK hN hQ_5) rfl rfl hl.1 rfl (lv_room (Nat.le_of_ble_eq_true rfl)) dX3_markOf_5 ⟨Nat.le_of_ble_eq_true rfl, Nat.le_of_ble_eq_true rfl⟩) (fun r_5 hr_5 => ?_)
    subst hr_5
    refine zti (show _ = nI 4 from congrArg nI hkd) ?_
    refine lv_istore_n (lv' := [(2, .int (nI 4)), (0, .ref (ad 0)), (1, .int (nI x))]) hx hb dX3_markOf_8 rfl hl (by decide) rfl (fun ls hl => ?_)
    refine lv_iload_n hx hb dX3_markOf_9 rfl (lv_at hl 0 rfl) ?_
    refine lv_iconst (v := nI 4) hx hb dX3_markOf_10 (by decide) ?_
    refine zc_lt (tgt := 34) hx hb (by omega) (by omega) dX3_markOf_11 (by decide) (fun c_11 => ?_) (fun c_11 => ?_)
    · omega
    · refine lv_aload_n hx hb dX3_markOf_14 rfl (lv_at hl 1 rfl) ?_
      refine lv_bipush (v := nI 23) hx hb dX3_markOf_15 (by decide) ?_
      have hle_17 := hS.1
      refine va_callv (va_runV (As := [.int (nI 23)]) (rest := []) ⟨hx, hb, hml, hown, hts⟩ (m_X3_began l g ad fi cn xl _ tr n 23 hc28 hf29 (by omega)) (cwV 1 hts (lw_V q1711 q1713 qs58 q69 q1714) rfl rfl rfl hdV_X3_began ⟨Nat.le_of_ble_eq_true rfl, Nat.le_of_ble_eq_true rfl⟩) (zpreV hK hN (va_recv hK hP (ci := 3) (q0 := 0) rfl rfl) ⟨rfl, hP, hD.weaken (fun _ _ _ _ => trivial)⟩) rfl rfl hl.1 rfl (lv_room (Nat.le_of_ble_eq_true rfl)) dX3_markOf_17 ⟨Nat.le_of_ble_eq_true rfl, Nat.le_of_ble_eq_true rfl⟩) hS (fun q _ h => mA_le hS.1 q h) (mA_le hS.1) (fun u t H locs ht hvm hw_17 hB hzz hkk hS => ?_)
      obtain ⟨hP, hD⟩ := hB
      rw [ht] at hP
      have hD := hD.weaken (fun _ _ _ h => mA_le hle_17 _ h)
      obtain ⟨_, rfl⟩ := hw_17
      have hP : va_P g.1 zCL (mW g ad (va_up fi 29 (nI (n + 1))) (va_up cn 28 (nF (va_up tr n 23))) xl) _ := hP
      have hD : va_D (mA ad s.heap.size) (mW g ad (va_up fi 29 (nI (n + 1))) (va_up cn 28 (nF (va_up tr n 23))) xl) := hD
      refine lv_aload_n hx hb dX3_markOf_20 rfl (lv_at hl 1 rfl) ?_
      refine lv_bipush (v := nI 20) hx hb dX3_markOf_21 (by decide) ?_
      have hle_23 := hS.1
      refine va_callv (va_runV (As := [.int (nI 20)]) (rest := []) ⟨hx, hb, hml, hown, hts⟩ (m_X3_began l g ad (va_up fi 29 (nI (n + 1))) (va_up cn 28 (nF (va_up tr n 23))) xl _ (va_up tr n 23) (n + 1) 20 rfl rfl (by omega)) (cwV 1 hts (lw_V q1711 q1713 qs58 q69 q1714) rfl rfl rfl hdV_X3_began ⟨Nat.le_of_ble_eq_true rfl, Nat.le_of_ble_eq_true rfl⟩) (zpreV hK hN (va_recv hK hP (ci := 3) (q0 := 0) rfl rfl) ⟨rfl, hP, hD.weaken (fun _ _ _ _ => trivial)⟩) rfl rfl hl.1 rfl (lv_room (Nat.le_of_ble_eq_true rfl)) dX3_markOf_23 ⟨Nat.le_of_ble_eq_true rfl, Nat.le_of_ble_eq_true rfl⟩) hS (fun q _ h => mA_le hS.1 q h) (mA_le hS.1) (fun u t H locs ht hvm hw_23 hB hzz hkk hS => ?_)
      obtain ⟨hP, hD⟩ := hB
      rw [ht] at hP
      have hD := hD.weaken (fun _ _ _ h => mA_le hle_23 _ h)
      obtain ⟨_, rfl⟩ := hw_23
      have hP : va_P g.1 zCL (mW g ad (va_up fi 29 (nI (n + 1 + 1))) (va_up cn 28 (nF (va_up (va_up tr n 23) (n + 1) 20))) xl) _ := hP
      have hD : va_D (mA ad s.heap.size) (mW g ad (va_up fi 29 (nI (n + 1 + 1))) (va_up cn 28 (nF (va_up (va_up tr n 23) (n + 1) 20))) xl) := hD
      refine lv_iload_n hx hb dX3_markOf_26 rfl (lv_at hl 2 rfl) ?_
      refine lv_aload_n hx hb dX3_markOf_27 rfl (lv_at hl 1 rfl) ?_
      refine lv_iload_n hx hb dX3_markOf_28 rfl (lv_at hl 2 rfl) ?_
      have hle_29 := hS.1
      refine va_calli (va_runV (As := [.int (nI x)]) (rest := [.int (nI x)]) ⟨hx, hb, hml, hown, hts⟩ (m_X3_fixedSize l g ad (va_up fi 29 (nI (n + 1 + 1))) (va_up cn 28 (nF (va_up (va_up tr n 23) (n + 1) 20))) xl _ B (va_up (va_up tr n 23) (n + 1) 20) (n + 1 + 1) hc4 rfl rfl hB x (by omega) 4 hkd (by decide) (by omega)) (cwV 1 hts (lw_V q1707 q1709 qs57 q69 q1710) rfl rfl rfl hdV_X3_fixedSize ⟨Nat.le_of_ble_eq_true rfl, Nat.le_of_ble_eq_true rfl⟩) (zpreV hK hN (va_recv hK hP (ci := 3) (q0 := 0) rfl rfl) ⟨rfl, hP, hD.weaken (fun _ _ _ _ => trivial)⟩) rfl rfl hl.1 rfl (lv_room (Nat.le_of_ble_eq_true rfl)) dX3_markOf_29 ⟨Nat.le_of_ble_eq_true rfl, Nat.le_of_ble_eq_true rfl⟩) hS (fun q _ h => mA_le hS.1 q h) (mA_le hS.1) (fun r_29 u t H locs ht hvm hw_29 hB hzz hkk hS => ?_)
      obtain ⟨hP, hD⟩ := hB
      rw [ht] at hP
      have hD := hD.weaken (fun _ _ _ h => mA_le hle_29 _ h)
      obtain ⟨rfl, rfl⟩ := hw_29
      have hP : va_P g.1 zCL (mW g ad (va_up fi 29 (nI (n + 1 + 1 + (bfzl 4).length))) (va_up cn 28 (nF (btl (va_up (va_up tr n 23) (n + 1) 20) (n + 1 + 1) (bfzl 4)))) xl) _ := hP
      have hD : va_D (mA ad s.heap.size) (mW g ad (va_up fi 29 (nI (n + 1 + 1 + (bfzl 4).length))) (va_up cn 28 (nF (btl (va_up (va_up tr n 23) (n + 1) 20) (n + 1 + 1) (bfzl 4)))) xl) := hD
      refine lv_isub hx hb dX3_markOf_32 ?_
      exact W.iret (v := (nI x) - (bfzv 4 B x)) hx hb hr (fun t ht hW => ⟨⟨(nI x) - (bfzv 4 B x), (va_up fi 29 (nI (n + 1 + 1 + (bfzl 4).length)), va_up cn 28 (nF (btl (va_up (va_up tr n 23) (n + 1) 20) (n + 1 + 1) (bfzl 4))), xl), rfl, ⟨rfl, rfl⟩, by rw [ht]; exact hP, hD⟩, hS.F ht⟩) hS.2.2 dX3_markOf_33
  · have hxw := (hB.wl hx0).2
    refine lv_aload_n hx hb dX3_markOf_0 rfl (lv_at hl 0 rfl) ?_
    refine va_get (D := g.1) (ci := 3) (v := .ref (ad 4)) (C := RX3) (T := TX3) (N := 30) hx hb hts in_X3 hown hK hP 0 rfl rfl 4 (by decide) (hts _ q1301) (fun _ h9 => h9) rfl dX3_markOf_1 ?_
    refine lv_iload_n hx hb dX3_markOf_4 rfl (lv_at hl 1 rfl) ?_
    have hQ_5 : va_P g.1 zCL [(ad 4, .inl (g.2 0, 44, .inl (cn 4)))] _ := hP.sub [4] rfl
    rw [show _ = _ from hc4] at hQ_5
    refine vp_callSi (W.runS (As := [.ref (ad 4), .int (nI x)]) (rest := []) ⟨hx, hb, hml, hown, hts⟩ (m_X3_kindOf l g (ad 4) B x (by omega)) (va_cwS 2 hts (lw_S q1510 q1511 q69 q1512) rfl rfl rfl hdS_X3_kindOf ⟨Nat.le_of_ble_eq_true rfl, Nat.le_of_ble_eq_true rfl⟩) (zpreS hK hN hQ_5) rfl rfl hl.1 rfl (lv_room (Nat.le_of_ble_eq_true rfl)) dX3_markOf_5 ⟨Nat.le_of_ble_eq_true rfl, Nat.le_of_ble_eq_true rfl⟩) (fun r_5 hr_5 => ?_)
    subst hr_5
    refine zti (show _ = nI 5 from congrArg nI hkd) ?_
    refine lv_istore_n (lv' := [(2, .int (nI 5)), (0, .ref (ad 0)), (1, .int (nI x))]) hx hb dX3_markOf_8 rfl hl (by decide) rfl (fun ls hl => ?_)
    refine lv_iload_n hx hb dX3_markOf_9 rfl (lv_at hl 0 rfl) ?_
    refine lv_iconst (v := nI 4) hx hb dX3_markOf_10 (by decide) ?_
    refine zc_lt (tgt := 34) hx hb (by omega) (by omega) dX3_markOf_11 (by decide) (fun c_11 => ?_) (fun c_11 => ?_)
    · omega
    · refine lv_aload_n hx hb dX3_markOf_14 rfl (lv_at hl 1 rfl) ?_
      refine lv_bipush (v := nI 23) hx hb dX3_markOf_15 (by decide) ?_
      have hle_17 := hS.1
      refine va_callv (va_runV (As := [.int (nI 23)]) (rest := []) ⟨hx, hb, hml, hown, hts⟩ (m_X3_began l g ad fi cn xl _ tr n 23 hc28 hf29 (by omega)) (cwV 1 hts (lw_V q1711 q1713 qs58 q69 q1714) rfl rfl rfl hdV_X3_began ⟨Nat.le_of_ble_eq_true rfl, Nat.le_of_ble_eq_true rfl⟩) (zpreV hK hN (va_recv hK hP (ci := 3) (q0 := 0) rfl rfl) ⟨rfl, hP, hD.weaken (fun _ _ _ _ => trivial)⟩) rfl rfl hl.1 rfl (lv_room (Nat.le_of_ble_eq_true rfl)) dX3_markOf_17 ⟨Nat.le_of_ble_eq_true rfl, Nat.le_of_ble_eq_true rfl⟩) hS (fun q _ h => mA_le hS.1 q h) (mA_le hS.1) (fun u t H locs ht hvm hw_17 hB hzz hkk hS => ?_)
      obtain ⟨hP, hD⟩ := hB
      rw [ht] at hP
      have hD := hD.weaken (fun _ _ _ h => mA_le hle_17 _ h)
      obtain ⟨_, rfl⟩ := hw_17
      have hP : va_P g.1 zCL (mW g ad (va_up fi 29 (nI (n + 1))) (va_up cn 28 (nF (va_up tr n 23))) xl) _ := hP
      have hD : va_D (mA ad s.heap.size) (mW g ad (va_up fi 29 (nI (n + 1))) (va_up cn 28 (nF (va_up tr n 23))) xl) := hD
      refine lv_aload_n hx hb dX3_markOf_20 rfl (lv_at hl 1 rfl) ?_
      refine lv_bipush (v := nI 20) hx hb dX3_markOf_21 (by decide) ?_
      have hle_23 := hS.1
      refine va_callv (va_runV (As := [.int (nI 20)]) (rest := []) ⟨hx, hb, hml, hown, hts⟩ (m_X3_began l g ad (va_up fi 29 (nI (n + 1))) (va_up cn 28 (nF (va_up tr n 23))) xl _ (va_up tr n 23) (n + 1) 20 rfl rfl (by omega)) (cwV 1 hts (lw_V q1711 q1713 qs58 q69 q1714) rfl rfl rfl hdV_X3_began ⟨Nat.le_of_ble_eq_true rfl, Nat.le_of_ble_eq_true rfl⟩) (zpreV hK hN (va_recv hK hP (ci := 3) (q0 := 0) rfl rfl) ⟨rfl, hP, hD.weaken (fun _ _ _ _ => trivial)⟩) rfl rfl hl.1 rfl (lv_room (Nat.le_of_ble_eq_true rfl)) dX3_markOf_23 ⟨Nat.le_of_ble_eq_true rfl, Nat.le_of_ble_eq_true rfl⟩) hS (fun q _ h => mA_le hS.1 q h) (mA_le hS.1) (fun u t H locs ht hvm hw_23 hB hzz hkk hS => ?_)
      obtain ⟨hP, hD⟩ := hB
      rw [ht] at hP
      have hD := hD.weaken (fun _ _ _ h => mA_le hle_23 _ h)
      obtain ⟨_, rfl⟩ := hw_23
      have hP : va_P g.1 zCL (mW g ad (va_up fi 29 (nI (n + 1 + 1))) (va_up cn 28 (nF (va_up (va_up tr n 23) (n + 1) 20))) xl) _ := hP
      have hD : va_D (mA ad s.heap.size) (mW g ad (va_up fi 29 (nI (n + 1 + 1))) (va_up cn 28 (nF (va_up (va_up tr n 23) (n + 1) 20))) xl) := hD
      refine lv_iload_n hx hb dX3_markOf_26 rfl (lv_at hl 2 rfl) ?_
      refine lv_aload_n hx hb dX3_markOf_27 rfl (lv_at hl 1 rfl) ?_
      refine lv_iload_n hx hb dX3_markOf_28 rfl (lv_at hl 2 rfl) ?_
      have hle_29 := hS.1
      refine va_calli (va_runV (As := [.int (nI x)]) (rest := [.int (nI x)]) ⟨hx, hb, hml, hown, hts⟩ (m_X3_fixedSize l g ad (va_up fi 29 (nI (n + 1 + 1))) (va_up cn 28 (nF (va_up (va_up tr n 23) (n + 1) 20))) xl _ B (va_up (va_up tr n 23) (n + 1) 20) (n + 1 + 1) hc4 rfl rfl hB x (by omega) 5 hkd (by decide) (by omega)) (cwV 1 hts (lw_V q1707 q1709 qs57 q69 q1710) rfl rfl rfl hdV_X3_fixedSize ⟨Nat.le_of_ble_eq_true rfl, Nat.le_of_ble_eq_true rfl⟩) (zpreV hK hN (va_recv hK hP (ci := 3) (q0 := 0) rfl rfl) ⟨rfl, hP, hD.weaken (fun _ _ _ _ => trivial)⟩) rfl rfl hl.1 rfl (lv_room (Nat.le_of_ble_eq_true rfl)) dX3_markOf_29 ⟨Nat.le_of_ble_eq_true rfl, Nat.le_of_ble_eq_true rfl⟩) hS (fun q _ h => mA_le hS.1 q h) (mA_le hS.1) (fun r_29 u t H locs ht hvm hw_29 hB hzz hkk hS => ?_)
      obtain ⟨hP, hD⟩ := hB
      rw [ht] at hP
      have hD := hD.weaken (fun _ _ _ h => mA_le hle_29 _ h)
      obtain ⟨rfl, rfl⟩ := hw_29
      have hP : va_P g.1 zCL (mW g ad (va_up fi 29 (nI (n + 1 + 1 + (bfzl 5).length))) (va_up cn 28 (nF (btl (va_up (va_up tr n 23) (n + 1) 20) (n + 1 + 1) (bfzl 5)))) xl) _ := hP
      have hD : va_D (mA ad s.heap.size) (mW g ad (va_up fi 29 (nI (n + 1 + 1 + (bfzl 5).length))) (va_up cn 28 (nF (btl (va_up (va_up tr n 23) (n + 1) 20) (n + 1 + 1) (bfzl 5)))) xl) := hD
      refine lv_isub hx hb dX3_markOf_32 ?_
      exact W.iret (v := (nI x) - (bfzv 5 B x)) hx hb hr (fun t ht hW => ⟨⟨(nI x) - (bfzv 5 B x), (va_up fi 29 (nI (n + 1 + 1 + (bfzl 5).length)), va_up cn 28 (nF (btl (va_up (va_up tr n 23) (n + 1) 20) (n + 1 + 1) (bfzl 5))), xl), rfl, ⟨rfl, rfl⟩, by rw [ht]; exact hP, hD⟩, hS.F ht⟩) hS.2.2 dX3_markOf_33

set_option maxHeartbeats 4000000 in
set_option maxRecDepth 100000 in
theorem m_X3_askedSize (l : Launch) (g : zG) (ad : Nat → Nat) (fi : Nat → Int32) (cn : Nat → Nat → Int32) (xl : Nat → Nat → Int64) (sz : Nat) (B tr : Nat → Nat) (n : Nat) (hc4 : cn 4 = nF B) (hc28 : cn 28 = nF tr) (hf29 : fi 29 = nI n) (hB : bOK B) (x : Nat) (hx0 : x < B 0) (kd : Nat) (hkd : bkd B x = kd) (hdm : kd = 1 ∨ kd = 2 ∨ kd = 3 ∨ kd = 4 ∨ kd = 5) (hnm : n ≤ 6) : Met l yX3_askedSize (ws_ yX3_askedSize cX3_askedSize 4 (some .int)) ({ frames := 4, cells := 0, slots := 0, locals := 88 }) (zPc g [.ref (ad 0), .int (nI x)] (mH g ad fi cn xl sz)) (va_Qi (fun r9 u => r9 = basv kd B x ∧ u = (va_up fi 29 (nI (n + (basl kd).length)), va_up cn 28 (nF (btl tr n (basl kd))), xl)) (mB g ad sz) (mA ad sz)) 0 0 (mA ad sz) := by
  refine Met.ofW (cc := cX3_askedSize) (maxL := 4) (ret := (some .int)) (by decide) rfl ?_
  intro p e s m args below meth c s₁ B0 hml hv
  obtain ⟨rfl, ⟨hK, hN⟩, hsz, hP, hD⟩ := hv
  have hx := B0.exec
  have hb := B0.bytes
  have hr := B0.returns
  have hts := atoms_spec (ws := ws_ yX3_askedSize cX3_askedSize 4 (some .int)) B0.pre
  have hts : ∀ w ∈ lw_all, w.before _ s = true := fun w h => hts w (List.mem_cons_of_mem _ h)
  have hown : s.vm.findClass RX3 = some m.cls := findClass_of_methodNamed B0.named
  have hlocks := B0.notSynchronized
  subst hsz
  have hD := mD_self s.heap.size hD
  have hS : va_S (mA ad s.heap.size) s.heap s.heap [] := va_S.rf
  have hl := lv_entry ([.ref (ad 0), .int (nI x)]) (n := 4) (Nat.le_of_ble_eq_true rfl)
  rw [lg_entry_eq]
  generalize (lg_sl ([.ref (ad 0), .int (nI x)]) ++ List.replicate (4 - (lg_sl ([.ref (ad 0), .int (nI x)])).length) Slot.unset).toArray = ls at hl ⊢
  have hl : lv_has ls 4 [(0, .ref (ad 0)), (1, .int (nI x))] := hl
  have h0 : B 0 ≤ 4 := hB.n4
  have h3 : B 3 ≤ 8 := hB.r8
  rcases hdm with rfl | rfl | rfl | rfl | rfl
  · refine lv_aload_n hx hb dX3_askedSize_0 rfl (lv_at hl 0 rfl) ?_
    refine va_get (D := g.1) (ci := 3) (v := .ref (ad 4)) (C := RX3) (T := TX3) (N := 30) hx hb hts in_X3 hown hK hP 0 rfl rfl 4 (by decide) (hts _ q1301) (fun _ h9 => h9) rfl dX3_askedSize_1 ?_
    refine lv_iload_n hx hb dX3_askedSize_4 rfl (lv_at hl 1 rfl) ?_
    have hQ_5 : va_P g.1 zCL [(ad 4, .inl (g.2 0, 44, .inl (cn 4)))] _ := hP.sub [4] rfl
    rw [show _ = _ from hc4] at hQ_5
    refine vp_callSi (W.runS (As := [.ref (ad 4), .int (nI x)]) (rest := []) ⟨hx, hb, hml, hown, hts⟩ (m_X3_kindOf l g (ad 4) B x (by omega)) (va_cwS 2 hts (lw_S q1510 q1511 q69 q1512) rfl rfl rfl hdS_X3_kindOf ⟨Nat.le_of_ble_eq_true rfl, Nat.le_of_ble_eq_true rfl⟩) (zpreS hK hN hQ_5) rfl rfl hl.1 rfl (lv_room (Nat.le_of_ble_eq_true rfl)) dX3_askedSize_5 ⟨Nat.le_of_ble_eq_true rfl, Nat.le_of_ble_eq_true rfl⟩) (fun r_5 hr_5 => ?_)
    subst hr_5
    refine zti (show _ = nI 1 from congrArg nI hkd) ?_
    refine lv_istore_n (lv' := [(2, .int (nI 1)), (0, .ref (ad 0)), (1, .int (nI x))]) hx hb dX3_askedSize_8 rfl hl (by decide) rfl (fun ls hl => ?_)
    refine lv_iload_n hx hb dX3_askedSize_9 rfl (lv_at hl 0 rfl) ?_
    refine lv_iconst (v := nI 4) hx hb dX3_askedSize_10 (by decide) ?_
    refine zc_lt (tgt := 20) hx hb (by omega) (by omega) dX3_askedSize_11 (by decide) (fun c_11 => ?_) (fun c_11 => ?_)
    · refine lv_iload_n hx hb dX3_askedSize_20 rfl (lv_at hl 0 rfl) ?_
      refine lv_iconst (v := nI 2) hx hb dX3_askedSize_21 (by decide) ?_
      refine zc_ne (tgt := 31) hx hb (by omega) (by omega) dX3_askedSize_22 (by decide) (fun c_22 => ?_) (fun c_22 => ?_)
      · refine lv_aload_n hx hb dX3_askedSize_31 rfl (lv_at hl 1 rfl) ?_
        refine lv_bipush (v := nI 11) hx hb dX3_askedSize_32 (by decide) ?_
        have hle_34 := hS.1
        refine va_callv (va_runV (As := [.int (nI 11)]) (rest := []) ⟨hx, hb, hml, hown, hts⟩ (m_X3_began l g ad fi cn xl _ tr n 11 hc28 hf29 (by omega)) (cwV 1 hts (lw_V q1711 q1713 qs58 q69 q1714) rfl rfl rfl hdV_X3_began ⟨Nat.le_of_ble_eq_true rfl, Nat.le_of_ble_eq_true rfl⟩) (zpreV hK hN (va_recv hK hP (ci := 3) (q0 := 0) rfl rfl) ⟨rfl, hP, hD.weaken (fun _ _ _ _ => trivial)⟩) rfl rfl hl.1 rfl (lv_room (Nat.le_of_ble_eq_true rfl)) dX3_askedSize_34 ⟨Nat.le_of_ble_eq_true rfl, Nat.le_of_ble_eq_true rfl⟩) hS (fun q _ h => mA_le hS.1 q h) (mA_le hS.1) (fun u t H locs ht hvm hw_34 hB hzz hkk hS => ?_)
        obtain ⟨hP, hD⟩ := hB
        rw [ht] at hP
        have hD := hD.weaken (fun _ _ _ h => mA_le hle_34 _ h)
        obtain ⟨_, rfl⟩ := hw_34
        have hP : va_P g.1 zCL (mW g ad (va_up fi 29 (nI (n + 1))) (va_up cn 28 (nF (va_up tr n 11))) xl) _ := hP
        have hD : va_D (mA ad s.heap.size) (mW g ad (va_up fi 29 (nI (n + 1))) (va_up cn 28 (nF (va_up tr n 11))) xl) := hD
        refine lv_aload_n hx hb dX3_askedSize_37 rfl (lv_at hl 1 rfl) ?_
        refine lv_iload_n hx hb dX3_askedSize_38 rfl (lv_at hl 2 rfl) ?_
        have hle_39 := hS.1
        refine va_calli (va_runV (As := [.int (nI x)]) (rest := []) ⟨hx, hb, hml, hown, hts⟩ (m_X3_lentSize l g ad (va_up fi 29 (nI (n + 1))) (va_up cn 28 (nF (va_up tr n 11))) xl _ B (va_up tr n 11) (n + 1) hc4 rfl rfl hB x (by omega) (by omega)) (cwV 1 hts (lw_V q1715 q1717 qs59 q69 q1718) rfl rfl rfl hdV_X3_lentSize ⟨Nat.le_of_ble_eq_true rfl, Nat.le_of_ble_eq_true rfl⟩) (zpreV hK hN (va_recv hK hP (ci := 3) (q0 := 0) rfl rfl) ⟨rfl, hP, hD.weaken (fun _ _ _ _ => trivial)⟩) rfl rfl hl.1 rfl (lv_room (Nat.le_of_ble_eq_true rfl)) dX3_askedSize_39 ⟨Nat.le_of_ble_eq_true rfl, Nat.le_of_ble_eq_true rfl⟩) hS (fun q _ h => mA_le hS.1 q h) (mA_le hS.1) (fun r_39 u t H locs ht hvm hw_39 hB hzz hkk hS => ?_)
        obtain ⟨hP, hD⟩ := hB
        rw [ht] at hP
        have hD := hD.weaken (fun _ _ _ h => mA_le hle_39 _ h)
        obtain ⟨rfl, rfl⟩ := hw_39
        have hP : va_P g.1 zCL (mW g ad (va_up fi 29 (nI (n + 1 + 1))) (va_up cn 28 (nF (va_up (va_up tr n 11) (n + 1) 10))) xl) _ := hP
        have hD : va_D (mA ad s.heap.size) (mW g ad (va_up fi 29 (nI (n + 1 + 1))) (va_up cn 28 (nF (va_up (va_up tr n 11) (n + 1) 10))) xl) := hD
        refine lv_istore_n (lv' := [(3, .int (nI (B (12 + 8 * x + 1)))), (2, .int (nI 1)), (0, .ref (ad 0)), (1, .int (nI x))]) hx hb dX3_askedSize_42 rfl hl (by decide) rfl (fun ls hl => ?_)
        refine lv_iload_n hx hb dX3_askedSize_43 rfl (lv_at hl 0 rfl) ?_
        refine lv_aload_n hx hb dX3_askedSize_44 rfl (lv_at hl 2 rfl) ?_
        refine lv_iload_n hx hb dX3_askedSize_45 rfl (lv_at hl 3 rfl) ?_
        have hle_46 := hS.1
        refine va_calli (va_runV (As := [.int (nI x)]) (rest := [.int (nI (B (12 + 8 * x + 1)))]) ⟨hx, hb, hml, hown, hts⟩ (m_X3_markOf l g ad (va_up fi 29 (nI (n + 1 + 1))) (va_up cn 28 (nF (va_up (va_up tr n 11) (n + 1) 10))) xl _ B (va_up (va_up tr n 11) (n + 1) 10) (n + 1 + 1) hc4 rfl rfl hB x (by omega) 1 hkd (by decide) (by omega)) (cwV 1 hts (lw_V q1719 q1721 qs60 q69 q1722) rfl rfl rfl hdV_X3_markOf ⟨Nat.le_of_ble_eq_true rfl, Nat.le_of_ble_eq_true rfl⟩) (zpreV hK hN (va_recv hK hP (ci := 3) (q0 := 0) rfl rfl) ⟨rfl, hP, hD.weaken (fun _ _ _ _ => trivial)⟩) rfl rfl hl.1 rfl (lv_room (Nat.le_of_ble_eq_true rfl)) dX3_askedSize_46 ⟨Nat.le_of_ble_eq_true rfl, Nat.le_of_ble_eq_true rfl⟩) hS (fun q _ h => mA_le hS.1 q h) (mA_le hS.1) (fun r_46 u t H locs ht hvm hw_46 hB hzz hkk hS => ?_)
        obtain ⟨hP, hD⟩ := hB
        rw [ht] at hP
        have hD := hD.weaken (fun _ _ _ h => mA_le hle_46 _ h)
        obtain ⟨rfl, rfl⟩ := hw_46
        have hP : va_P g.1 zCL (mW g ad (va_up fi 29 (nI (n + 1 + 1 + (bmkl 1).length))) (va_up cn 28 (nF (btl (va_up (va_up tr n 11) (n + 1) 10) (n + 1 + 1) (bmkl 1)))) xl) _ := hP
        have hD : va_D (mA ad s.heap.size) (mW g ad (va_up fi 29 (nI (n + 1 + 1 + (bmkl 1).length))) (va_up cn 28 (nF (btl (va_up (va_up tr n 11) (n + 1) 10) (n + 1 + 1) (bmkl 1)))) xl) := hD
        refine lv_iadd hx hb dX3_askedSize_49 ?_
        refine lv_istore_n (lv' := [(3, .int ((nI (B (12 + 8 * x + 1))) + (bmkv 1 B x))), (2, .int (nI 1)), (0, .ref (ad 0)), (1, .int (nI x))]) hx hb dX3_askedSize_50 rfl hl (by decide) rfl (fun ls hl => ?_)
        refine lv_iload_n hx hb dX3_askedSize_51 rfl (lv_at hl 1 rfl) ?_
        refine lv_iconst (v := nI 2) hx hb dX3_askedSize_52 (by decide) ?_
        refine zc_ne (tgt := 61) hx hb (by omega) (by omega) dX3_askedSize_53 (by decide) (fun c_53 => ?_) (fun c_53 => ?_)
        · refine lv_iload_n hx hb dX3_askedSize_61 rfl (lv_at hl 0 rfl) ?_
          exact W.iret (v := (nI (B (12 + 8 * x + 1))) + (bmkv 1 B x)) hx hb hr (fun t ht hW => ⟨⟨(nI (B (12 + 8 * x + 1))) + (bmkv 1 B x), (va_up fi 29 (nI (n + 1 + 1 + (bmkl 1).length)), va_up cn 28 (nF (btl (va_up (va_up tr n 11) (n + 1) 10) (n + 1 + 1) (bmkl 1))), xl), rfl, ⟨rfl, rfl⟩, by rw [ht]; exact hP, hD⟩, hS.F ht⟩) hS.2.2 dX3_askedSize_62
        · omega
      · omega
    · omega
  · refine lv_aload_n hx hb dX3_askedSize_0 rfl (lv_at hl 0 rfl) ?_
    refine va_get (D := g.1) (ci := 3) (v := .ref (ad 4)) (C := RX3) (T := TX3) (N := 30) hx hb hts in_X3 hown hK hP 0 rfl rfl 4 (by decide) (hts _ q1301) (fun _ h9 => h9) rfl dX3_askedSize_1 ?_
    refine lv_iload_n hx hb dX3_askedSize_4 rfl (lv_at hl 1 rfl) ?_
    have hQ_5 : va_P g.1 zCL [(ad 4, .inl (g.2 0, 44, .inl (cn 4)))] _ := hP.sub [4] rfl
    rw [show _ = _ from hc4] at hQ_5
    refine vp_callSi (W.runS (As := [.ref (ad 4), .int (nI x)]) (rest := []) ⟨hx, hb, hml, hown, hts⟩ (m_X3_kindOf l g (ad 4) B x (by omega)) (va_cwS 2 hts (lw_S q1510 q1511 q69 q1512) rfl rfl rfl hdS_X3_kindOf ⟨Nat.le_of_ble_eq_true rfl, Nat.le_of_ble_eq_true rfl⟩) (zpreS hK hN hQ_5) rfl rfl hl.1 rfl (lv_room (Nat.le_of_ble_eq_true rfl)) dX3_askedSize_5 ⟨Nat.le_of_ble_eq_true rfl, Nat.le_of_ble_eq_true rfl⟩) (fun r_5 hr_5 => ?_)
    subst hr_5
    refine zti (show _ = nI 2 from congrArg nI hkd) ?_
    refine lv_istore_n (lv' := [(2, .int (nI 2)), (0, .ref (ad 0)), (1, .int (nI x))]) hx hb dX3_askedSize_8 rfl hl (by decide) rfl (fun ls hl => ?_)
    refine lv_iload_n hx hb dX3_askedSize_9 rfl (lv_at hl 0 rfl) ?_
    refine lv_iconst (v := nI 4) hx hb dX3_askedSize_10 (by decide) ?_
    refine zc_lt (tgt := 20) hx hb (by omega) (by omega) dX3_askedSize_11 (by decide) (fun c_11 => ?_) (fun c_11 => ?_)
    · refine lv_iload_n hx hb dX3_askedSize_20 rfl (lv_at hl 0 rfl) ?_
      refine lv_iconst (v := nI 2) hx hb dX3_askedSize_21 (by decide) ?_
      refine zc_ne (tgt := 31) hx hb (by omega) (by omega) dX3_askedSize_22 (by decide) (fun c_22 => ?_) (fun c_22 => ?_)
      · omega
      · refine lv_aload_n hx hb dX3_askedSize_25 rfl (lv_at hl 1 rfl) ?_
        refine lv_bipush (v := nI 12) hx hb dX3_askedSize_26 (by decide) ?_
        have hle_28 := hS.1
        refine va_callv (va_runV (As := [.int (nI 12)]) (rest := []) ⟨hx, hb, hml, hown, hts⟩ (m_X3_began l g ad fi cn xl _ tr n 12 hc28 hf29 (by omega)) (cwV 1 hts (lw_V q1711 q1713 qs58 q69 q1714) rfl rfl rfl hdV_X3_began ⟨Nat.le_of_ble_eq_true rfl, Nat.le_of_ble_eq_true rfl⟩) (zpreV hK hN (va_recv hK hP (ci := 3) (q0 := 0) rfl rfl) ⟨rfl, hP, hD.weaken (fun _ _ _ _ => trivial)⟩) rfl rfl hl.1 rfl (lv_room (Nat.le_of_ble_eq_true rfl)) dX3_askedSize_28 ⟨Nat.le_of_ble_eq_true rfl, Nat.le_of_ble_eq_true rfl⟩) hS (fun q _ h => mA_le hS.1 q h) (mA_le hS.1) (fun u t H locs ht hvm hw_28 hB hzz hkk hS => ?_)
        obtain ⟨hP, hD⟩ := hB
        rw [ht] at hP
        have hD := hD.weaken (fun _ _ _ h => mA_le hle_28 _ h)
        obtain ⟨_, rfl⟩ := hw_28
        have hP : va_P g.1 zCL (mW g ad (va_up fi 29 (nI (n + 1))) (va_up cn 28 (nF (va_up tr n 12))) xl) _ := hP
        have hD : va_D (mA ad s.heap.size) (mW g ad (va_up fi 29 (nI (n + 1))) (va_up cn 28 (nF (va_up tr n 12))) xl) := hD
        refine lv_aload_n hx hb dX3_askedSize_31 rfl (lv_at hl 1 rfl) ?_
        refine lv_bipush (v := nI 11) hx hb dX3_askedSize_32 (by decide) ?_
        have hle_34 := hS.1
        refine va_callv (va_runV (As := [.int (nI 11)]) (rest := []) ⟨hx, hb, hml, hown, hts⟩ (m_X3_began l g ad (va_up fi 29 (nI (n + 1))) (va_up cn 28 (nF (va_up tr n 12))) xl _ (va_up tr n 12) (n + 1) 11 rfl rfl (by omega)) (cwV 1 hts (lw_V q1711 q1713 qs58 q69 q1714) rfl rfl rfl hdV_X3_began ⟨Nat.le_of_ble_eq_true rfl, Nat.le_of_ble_eq_true rfl⟩) (zpreV hK hN (va_recv hK hP (ci := 3) (q0 := 0) rfl rfl) ⟨rfl, hP, hD.weaken (fun _ _ _ _ => trivial)⟩) rfl rfl hl.1 rfl (lv_room (Nat.le_of_ble_eq_true rfl)) dX3_askedSize_34 ⟨Nat.le_of_ble_eq_true rfl, Nat.le_of_ble_eq_true rfl⟩) hS (fun q _ h => mA_le hS.1 q h) (mA_le hS.1) (fun u t H locs ht hvm hw_34 hB hzz hkk hS => ?_)
        obtain ⟨hP, hD⟩ := hB
        rw [ht] at hP
        have hD := hD.weaken (fun _ _ _ h => mA_le hle_34 _ h)
        obtain ⟨_, rfl⟩ := hw_34
        have hP : va_P g.1 zCL (mW g ad (va_up fi 29 (nI (n + 1 + 1))) (va_up cn 28 (nF (va_up (va_up tr n 12) (n + 1) 11))) xl) _ := hP
        have hD : va_D (mA ad s.heap.size) (mW g ad (va_up fi 29 (nI (n + 1 + 1))) (va_up cn 28 (nF (va_up (va_up tr n 12) (n + 1) 11))) xl) := hD
        refine lv_aload_n hx hb dX3_askedSize_37 rfl (lv_at hl 1 rfl) ?_
        refine lv_iload_n hx hb dX3_askedSize_38 rfl (lv_at hl 2 rfl) ?_
        have hle_39 := hS.1
        refine va_calli (va_runV (As := [.int (nI x)]) (rest := []) ⟨hx, hb, hml, hown, hts⟩ (m_X3_lentSize l g ad (va_up fi 29 (nI (n + 1 + 1))) (va_up cn 28 (nF (va_up (va_up tr n 12) (n + 1) 11))) xl _ B (va_up (va_up tr n 12) (n + 1) 11) (n + 1 + 1) hc4 rfl rfl hB x (by omega) (by omega)) (cwV 1 hts (lw_V q1715 q1717 qs59 q69 q1718) rfl rfl rfl hdV_X3_lentSize ⟨Nat.le_of_ble_eq_true rfl, Nat.le_of_ble_eq_true rfl⟩) (zpreV hK hN (va_recv hK hP (ci := 3) (q0 := 0) rfl rfl) ⟨rfl, hP, hD.weaken (fun _ _ _ _ => trivial)⟩) rfl rfl hl.1 rfl (lv_room (Nat.le_of_ble_eq_true rfl)) dX3_askedSize_39 ⟨Nat.le_of_ble_eq_true rfl, Nat.le_of_ble_eq_true rfl⟩) hS (fun q _ h => mA_le hS.1 q h) (mA_le hS.1) (fun r_39 u t H locs ht hvm hw_39 hB hzz hkk hS => ?_)
        obtain ⟨hP, hD⟩ := hB
        rw [ht] at hP
        have hD := hD.weaken (fun _ _ _ h => mA_le hle_39 _ h)
        obtain ⟨rfl, rfl⟩ := hw_39
        have hP : va_P g.1 zCL (mW g ad (va_up fi 29 (nI (n + 1 + 1 + 1))) (va_up cn 28 (nF (va_up (va_up (va_up tr n 12) (n + 1) 11) (n + 1 + 1) 10))) xl) _ := hP
        have hD : va_D (mA ad s.heap.size) (mW g ad (va_up fi 29 (nI (n + 1 + 1 + 1))) (va_up cn 28 (nF (va_up (va_up (va_up tr n 12) (n + 1) 11) (n + 1 + 1) 10))) xl) := hD
        refine lv_istore_n (lv' := [(3, .int (nI (B (12 + 8 * x + 1)))), (2, .int (nI 2)), (0, .ref (ad 0)), (1, .int (nI x))]) hx hb dX3_askedSize_42 rfl hl (by decide) rfl (fun ls hl => ?_)
        refine lv_iload_n hx hb dX3_askedSize_43 rfl (lv_at hl 0 rfl) ?_
        refine lv_aload_n hx hb dX3_askedSize_44 rfl (lv_at hl 2 rfl) ?_
        refine lv_iload_n hx hb dX3_askedSize_45 rfl (lv_at hl 3 rfl) ?_
        have hle_46 := hS.1
        refine va_calli (va_runV (As := [.int (nI x)]) (rest := [.int (nI (B (12 + 8 * x + 1)))]) ⟨hx, hb, hml, hown, hts⟩ (m_X3_markOf l g ad (va_up fi 29 (nI (n + 1 + 1 + 1))) (va_up cn 28 (nF (va_up (va_up (va_up tr n 12) (n + 1) 11) (n + 1 + 1) 10))) xl _ B (va_up (va_up (va_up tr n 12) (n + 1) 11) (n + 1 + 1) 10) (n + 1 + 1 + 1) hc4 rfl rfl hB x (by omega) 2 hkd (by decide) (by omega)) (cwV 1 hts (lw_V q1719 q1721 qs60 q69 q1722) rfl rfl rfl hdV_X3_markOf ⟨Nat.le_of_ble_eq_true rfl, Nat.le_of_ble_eq_true rfl⟩) (zpreV hK hN (va_recv hK hP (ci := 3) (q0 := 0) rfl rfl) ⟨rfl, hP, hD.weaken (fun _ _ _ _ => trivial)⟩) rfl rfl hl.1 rfl (lv_room (Nat.le_of_ble_eq_true rfl)) dX3_askedSize_46 ⟨Nat.le_of_ble_eq_true rfl, Nat.le_of_ble_eq_true rfl⟩) hS (fun q _ h => mA_le hS.1 q h) (mA_le hS.1) (fun r_46 u t H locs ht hvm hw_46 hB hzz hkk hS => ?_)
        obtain ⟨hP, hD⟩ := hB
        rw [ht] at hP
        have hD := hD.weaken (fun _ _ _ h => mA_le hle_46 _ h)
        obtain ⟨rfl, rfl⟩ := hw_46
        have hP : va_P g.1 zCL (mW g ad (va_up fi 29 (nI (n + 1 + 1 + 1 + (bmkl 2).length))) (va_up cn 28 (nF (btl (va_up (va_up (va_up tr n 12) (n + 1) 11) (n + 1 + 1) 10) (n + 1 + 1 + 1) (bmkl 2)))) xl) _ := hP
        have hD : va_D (mA ad s.heap.size) (mW g ad (va_up fi 29 (nI (n + 1 + 1 + 1 + (bmkl 2).length))) (va_up cn 28 (nF (btl (va_up (va_up (va_up tr n 12) (n + 1) 11) (n + 1 + 1) 10) (n + 1 + 1 + 1) (bmkl 2)))) xl) := hD
        refine lv_iadd hx hb dX3_askedSize_49 ?_
        refine lv_istore_n (lv' := [(3, .int ((nI (B (12 + 8 * x + 1))) + (bmkv 2 B x))), (2, .int (nI 2)), (0, .ref (ad 0)), (1, .int (nI x))]) hx hb dX3_askedSize_50 rfl hl (by decide) rfl (fun ls hl => ?_)
        refine lv_iload_n hx hb dX3_askedSize_51 rfl (lv_at hl 1 rfl) ?_
        refine lv_iconst (v := nI 2) hx hb dX3_askedSize_52 (by decide) ?_
        refine zc_ne (tgt := 61) hx hb (by omega) (by omega) dX3_askedSize_53 (by decide) (fun c_53 => ?_) (fun c_53 => ?_)
        · omega
        · refine lv_iload_n hx hb dX3_askedSize_56 rfl (lv_at hl 0 rfl) ?_
          refine lv_ineg hx hb dX3_askedSize_57 ?_
          refine lv_goto (tgt := 62) hx hb dX3_askedSize_58 (by decide) ?_
          exact W.iret (v := -((nI (B (12 + 8 * x + 1))) + (bmkv 2 B x))) hx hb hr (fun t ht hW => ⟨⟨-((nI (B (12 + 8 * x + 1))) + (bmkv 2 B x)), (va_up fi 29 (nI (n + 1 + 1 + 1 + (bmkl 2).length)), va_up cn 28 (nF (btl (va_up (va_up (va_up tr n 12) (n + 1) 11) (n + 1 + 1) 10) (n + 1 + 1 + 1) (bmkl 2))), xl), rfl, ⟨rfl, rfl⟩, by rw [ht]; exact hP, hD⟩, hS.F ht⟩) hS.2.2 dX3_askedSize_62
    · omega
  · refine lv_aload_n hx hb dX3_askedSize_0 rfl (lv_at hl 0 rfl) ?_
    refine va_get (D := g.1) (ci := 3) (v := .ref (ad 4)) (C := RX3) (T := TX3) (N := 30) hx hb hts in_X3 hown hK hP 0 rfl rfl 4 (by decide) (hts _ q1301) (fun _ h9 => h9) rfl dX3_askedSize_1 ?_
    refine lv_iload_n hx hb dX3_askedSize_4 rfl (lv_at hl 1 rfl) ?_
    have hQ_5 : va_P g.1 zCL [(ad 4, .inl (g.2 0, 44, .inl (cn 4)))] _ := hP.sub [4] rfl
    rw [show _ = _ from hc4] at hQ_5
    refine vp_callSi (W.runS (As := [.ref (ad 4), .int (nI x)]) (rest := []) ⟨hx, hb, hml, hown, hts⟩ (m_X3_kindOf l g (ad 4) B x (by omega)) (va_cwS 2 hts (lw_S q1510 q1511 q69 q1512) rfl rfl rfl hdS_X3_kindOf ⟨Nat.le_of_ble_eq_true rfl, Nat.le_of_ble_eq_true rfl⟩) (zpreS hK hN hQ_5) rfl rfl hl.1 rfl (lv_room (Nat.le_of_ble_eq_true rfl)) dX3_askedSize_5 ⟨Nat.le_of_ble_eq_true rfl, Nat.le_of_ble_eq_true rfl⟩) (fun r_5 hr_5 => ?_)
    subst hr_5
    refine zti (show _ = nI 3 from congrArg nI hkd) ?_
    refine lv_istore_n (lv' := [(2, .int (nI 3)), (0, .ref (ad 0)), (1, .int (nI x))]) hx hb dX3_askedSize_8 rfl hl (by decide) rfl (fun ls hl => ?_)
    refine lv_iload_n hx hb dX3_askedSize_9 rfl (lv_at hl 0 rfl) ?_
    refine lv_iconst (v := nI 4) hx hb dX3_askedSize_10 (by decide) ?_
    refine zc_lt (tgt := 20) hx hb (by omega) (by omega) dX3_askedSize_11 (by decide) (fun c_11 => ?_) (fun c_11 => ?_)
    · refine lv_iload_n hx hb dX3_askedSize_20 rfl (lv_at hl 0 rfl) ?_
      refine lv_iconst (v := nI 2) hx hb dX3_askedSize_21 (by decide) ?_
      refine zc_ne (tgt := 31) hx hb (by omega) (by omega) dX3_askedSize_22 (by decide) (fun c_22 => ?_) (fun c_22 => ?_)
      · refine lv_aload_n hx hb dX3_askedSize_31 rfl (lv_at hl 1 rfl) ?_
        refine lv_bipush (v := nI 11) hx hb dX3_askedSize_32 (by decide) ?_
        have hle_34 := hS.1
        refine va_callv (va_runV (As := [.int (nI 11)]) (rest := []) ⟨hx, hb, hml, hown, hts⟩ (m_X3_began l g ad fi cn xl _ tr n 11 hc28 hf29 (by omega)) (cwV 1 hts (lw_V q1711 q1713 qs58 q69 q1714) rfl rfl rfl hdV_X3_began ⟨Nat.le_of_ble_eq_true rfl, Nat.le_of_ble_eq_true rfl⟩) (zpreV hK hN (va_recv hK hP (ci := 3) (q0 := 0) rfl rfl) ⟨rfl, hP, hD.weaken (fun _ _ _ _ => trivial)⟩) rfl rfl hl.1 rfl (lv_room (Nat.le_of_ble_eq_true rfl)) dX3_askedSize_34 ⟨Nat.le_of_ble_eq_true rfl, Nat.le_of_ble_eq_true rfl⟩) hS (fun q _ h => mA_le hS.1 q h) (mA_le hS.1) (fun u t H locs ht hvm hw_34 hB hzz hkk hS => ?_)
        obtain ⟨hP, hD⟩ := hB
        rw [ht] at hP
        have hD := hD.weaken (fun _ _ _ h => mA_le hle_34 _ h)
        obtain ⟨_, rfl⟩ := hw_34
        have hP : va_P g.1 zCL (mW g ad (va_up fi 29 (nI (n + 1))) (va_up cn 28 (nF (va_up tr n 11))) xl) _ := hP
        have hD : va_D (mA ad s.heap.size) (mW g ad (va_up fi 29 (nI (n + 1))) (va_up cn 28 (nF (va_up tr n 11))) xl) := hD
        refine lv_aload_n hx hb dX3_askedSize_37 rfl (lv_at hl 1 rfl) ?_
        refine lv_iload_n hx hb dX3_askedSize_38 rfl (lv_at hl 2 rfl) ?_
        have hle_39 := hS.1
        refine va_calli (va_runV (As := [.int (nI x)]) (rest := []) ⟨hx, hb, hml, hown, hts⟩ (m_X3_lentSize l g ad (va_up fi 29 (nI (n + 1))) (va_up cn 28 (nF (va_up tr n 11))) xl _ B (va_up tr n 11) (n + 1) hc4 rfl rfl hB x (by omega) (by omega)) (cwV 1 hts (lw_V q1715 q1717 qs59 q69 q1718) rfl rfl rfl hdV_X3_lentSize ⟨Nat.le_of_ble_eq_true rfl, Nat.le_of_ble_eq_true rfl⟩) (zpreV hK hN (va_recv hK hP (ci := 3) (q0 := 0) rfl rfl) ⟨rfl, hP, hD.weaken (fun _ _ _ _ => trivial)⟩) rfl rfl hl.1 rfl (lv_room (Nat.le_of_ble_eq_true rfl)) dX3_askedSize_39 ⟨Nat.le_of_ble_eq_true rfl, Nat.le_of_ble_eq_true rfl⟩) hS (fun q _ h => mA_le hS.1 q h) (mA_le hS.1) (fun r_39 u t H locs ht hvm hw_39 hB hzz hkk hS => ?_)
        obtain ⟨hP, hD⟩ := hB
        rw [ht] at hP
        have hD := hD.weaken (fun _ _ _ h => mA_le hle_39 _ h)
        obtain ⟨rfl, rfl⟩ := hw_39
        have hP : va_P g.1 zCL (mW g ad (va_up fi 29 (nI (n + 1 + 1))) (va_up cn 28 (nF (va_up (va_up tr n 11) (n + 1) 10))) xl) _ := hP
        have hD : va_D (mA ad s.heap.size) (mW g ad (va_up fi 29 (nI (n + 1 + 1))) (va_up cn 28 (nF (va_up (va_up tr n 11) (n + 1) 10))) xl) := hD
        refine lv_istore_n (lv' := [(3, .int (nI (B (12 + 8 * x + 1)))), (2, .int (nI 3)), (0, .ref (ad 0)), (1, .int (nI x))]) hx hb dX3_askedSize_42 rfl hl (by decide) rfl (fun ls hl => ?_)
        refine lv_iload_n hx hb dX3_askedSize_43 rfl (lv_at hl 0 rfl) ?_
        refine lv_aload_n hx hb dX3_askedSize_44 rfl (lv_at hl 2 rfl) ?_
        refine lv_iload_n hx hb dX3_askedSize_45 rfl (lv_at hl 3 rfl) ?_
        have hle_46 := hS.1
        refine va_calli (va_runV (As := [.int (nI x)]) (rest := [.int (nI (B (12 + 8 * x + 1)))]) ⟨hx, hb, hml, hown, hts⟩ (m_X3_markOf l g ad (va_up fi 29 (nI (n + 1 + 1))) (va_up cn 28 (nF (va_up (va_up tr n 11) (n + 1) 10))) xl _ B (va_up (va_up tr n 11) (n + 1) 10) (n + 1 + 1) hc4 rfl rfl hB x (by omega) 3 hkd (by decide) (by omega)) (cwV 1 hts (lw_V q1719 q1721 qs60 q69 q1722) rfl rfl rfl hdV_X3_markOf ⟨Nat.le_of_ble_eq_true rfl, Nat.le_of_ble_eq_true rfl⟩) (zpreV hK hN (va_recv hK hP (ci := 3) (q0 := 0) rfl rfl) ⟨rfl, hP, hD.weaken (fun _ _ _ _ => trivial)⟩) rfl rfl hl.1 rfl (lv_room (Nat.le_of_ble_eq_true rfl)) dX3_askedSize_46 ⟨Nat.le_of_ble_eq_true rfl, Nat.le_of_ble_eq_true rfl⟩) hS (fun q _ h => mA_le hS.1 q h) (mA_le hS.1) (fun r_46 u t H locs ht hvm hw_46 hB hzz hkk hS => ?_)
        obtain ⟨hP, hD⟩ := hB
        rw [ht] at hP
        have hD := hD.weaken (fun _ _ _ h => mA_le hle_46 _ h)
        obtain ⟨rfl, rfl⟩ := hw_46
        have hP : va_P g.1 zCL (mW g ad (va_up fi 29 (nI (n + 1 + 1 + (bmkl 3).length))) (va_up cn 28 (nF (btl (va_up (va_up tr n 11) (n + 1) 10) (n + 1 + 1) (bmkl 3)))) xl) _ := hP
        have hD : va_D (mA ad s.heap.size) (mW g ad (va_up fi 29 (nI (n + 1 + 1 + (bmkl 3).length))) (va_up cn 28 (nF (btl (va_up (va_up tr n 11) (n + 1) 10) (n + 1 + 1) (bmkl 3)))) xl) := hD
        refine lv_iadd hx hb dX3_askedSize_49 ?_
        refine lv_istore_n (lv' := [(3, .int ((nI (B (12 + 8 * x + 1))) + (bmkv 3 B x))), (2, .int (nI 3)), (0, .ref (ad 0)), (1, .int (nI x))]) hx hb dX3_askedSize_50 rfl hl (by decide) rfl (fun ls hl => ?_)
        refine lv_iload_n hx hb dX3_askedSize_51 rfl (lv_at hl 1 rfl) ?_
        refine lv_iconst (v := nI 2) hx hb dX3_askedSize_52 (by decide) ?_
        refine zc_ne (tgt := 61) hx hb (by omega) (by omega) dX3_askedSize_53 (by decide) (fun c_53 => ?_) (fun c_53 => ?_)
        · refine lv_iload_n hx hb dX3_askedSize_61 rfl (lv_at hl 0 rfl) ?_
          exact W.iret (v := (nI (B (12 + 8 * x + 1))) + (bmkv 3 B x)) hx hb hr (fun t ht hW => ⟨⟨(nI (B (12 + 8 * x + 1))) + (bmkv 3 B x), (va_up fi 29 (nI (n + 1 + 1 + (bmkl 3).length)), va_up cn 28 (nF (btl (va_up (va_up tr n 11) (n + 1) 10) (n + 1 + 1) (bmkl 3))), xl), rfl, ⟨rfl, rfl⟩, by rw [ht]; exact hP, hD⟩, hS.F ht⟩) hS.2.2 dX3_askedSize_62
        · omega
      · omega
    · omega
  · refine lv_aload_n hx hb dX3_askedSize_0 rfl (lv_at hl 0 rfl) ?_
    refine va_get (D := g.1) (ci := 3) (v := .ref (ad 4)) (C := RX3) (T := TX3) (N := 30) hx hb hts in_X3 hown hK hP 0 rfl rfl 4 (by decide) (hts _ q1301) (fun _ h9 => h9) rfl dX3_askedSize_1 ?_
    refine lv_iload_n hx hb dX3_askedSize_4 rfl (lv_at hl 1 rfl) ?_
    have hQ_5 : va_P g.1 zCL [(ad 4, .inl (g.2 0, 44, .inl (cn 4)))] _ := hP.sub [4] rfl
    rw [show _ = _ from hc4] at hQ_5
    refine vp_callSi (W.runS (As := [.ref (ad 4), .int (nI x)]) (rest := []) ⟨hx, hb, hml, hown, hts⟩ (m_X3_kindOf l g (ad 4) B x (by omega)) (va_cwS 2 hts (lw_S q1510 q1511 q69 q1512) rfl rfl rfl hdS_X3_kindOf ⟨Nat.le_of_ble_eq_true rfl, Nat.le_of_ble_eq_true rfl⟩) (zpreS hK hN hQ_5) rfl rfl hl.1 rfl (lv_room (Nat.le_of_ble_eq_true rfl)) dX3_askedSize_5 ⟨Nat.le_of_ble_eq_true rfl, Nat.le_of_ble_eq_true rfl⟩) (fun r_5 hr_5 => ?_)
    subst hr_5
    refine zti (show _ = nI 4 from congrArg nI hkd) ?_
    refine lv_istore_n (lv' := [(2, .int (nI 4)), (0, .ref (ad 0)), (1, .int (nI x))]) hx hb dX3_askedSize_8 rfl hl (by decide) rfl (fun ls hl => ?_)
    refine lv_iload_n hx hb dX3_askedSize_9 rfl (lv_at hl 0 rfl) ?_
    refine lv_iconst (v := nI 4) hx hb dX3_askedSize_10 (by decide) ?_
    refine zc_lt (tgt := 20) hx hb (by omega) (by omega) dX3_askedSize_11 (by decide) (fun c_11 => ?_) (fun c_11 => ?_)
    · omega
    · refine lv_aload_n hx hb dX3_askedSize_14 rfl (lv_at hl 1 rfl) ?_
      refine lv_iload_n hx hb dX3_askedSize_15 rfl (lv_at hl 2 rfl) ?_
      have hle_16 := hS.1
      refine va_calli (va_runV (As := [.int (nI x)]) (rest := []) ⟨hx, hb, hml, hown, hts⟩ (m_X3_fixedSize l g ad fi cn xl _ B tr n hc4 hc28 hf29 hB x (by omega) 4 hkd (by decide) (by omega)) (cwV 1 hts (lw_V q1707 q1709 qs57 q69 q1710) rfl rfl rfl hdV_X3_fixedSize ⟨Nat.le_of_ble_eq_true rfl, Nat.le_of_ble_eq_true rfl⟩) (zpreV hK hN (va_recv hK hP (ci := 3) (q0 := 0) rfl rfl) ⟨rfl, hP, hD.weaken (fun _ _ _ _ => trivial)⟩) rfl rfl hl.1 rfl (lv_room (Nat.le_of_ble_eq_true rfl)) dX3_askedSize_16 ⟨Nat.le_of_ble_eq_true rfl, Nat.le_of_ble_eq_true rfl⟩) hS (fun q _ h => mA_le hS.1 q h) (mA_le hS.1) (fun r_16 u t H locs ht hvm hw_16 hB hzz hkk hS => ?_)
      obtain ⟨hP, hD⟩ := hB
      rw [ht] at hP
      have hD := hD.weaken (fun _ _ _ h => mA_le hle_16 _ h)
      obtain ⟨rfl, rfl⟩ := hw_16
      have hP : va_P g.1 zCL (mW g ad (va_up fi 29 (nI (n + (bfzl 4).length))) (va_up cn 28 (nF (btl tr n (bfzl 4)))) xl) _ := hP
      have hD : va_D (mA ad s.heap.size) (mW g ad (va_up fi 29 (nI (n + (bfzl 4).length))) (va_up cn 28 (nF (btl tr n (bfzl 4)))) xl) := hD
      exact W.iret (v := bfzv 4 B x) hx hb hr (fun t ht hW => ⟨⟨bfzv 4 B x, (va_up fi 29 (nI (n + (bfzl 4).length)), va_up cn 28 (nF (btl tr n (bfzl 4))), xl), rfl, ⟨rfl, rfl⟩, by rw [ht]; exact hP, hD⟩, hS.F ht⟩) hS.2.2 dX3_askedSize_19
  · refine lv_aload_n hx hb dX3_askedSize_0 rfl (lv_at hl 0 rfl) ?_
    refine va_get (D := g.1) (ci := 3) (v := .ref (ad 4)) (C := RX3) (T := TX3) (N := 30) hx hb hts in_X3 hown hK hP 0 rfl rfl 4 (by decide) (hts _ q1301) (fun _ h9 => h9) rfl dX3_askedSize_1 ?_
    refine lv_iload_n hx hb dX3_askedSize_4 rfl (lv_at hl 1 rfl) ?_
    have hQ_5 : va_P g.1 zCL [(ad 4, .inl (g.2 0, 44, .inl (cn 4)))] _ := hP.sub [4] rfl
    rw [show _ = _ from hc4] at hQ_5
    refine vp_callSi (W.runS (As := [.ref (ad 4), .int (nI x)]) (rest := []) ⟨hx, hb, hml, hown, hts⟩ (m_X3_kindOf l g (ad 4) B x (by omega)) (va_cwS 2 hts (lw_S q1510 q1511 q69 q1512) rfl rfl rfl hdS_X3_kindOf ⟨Nat.le_of_ble_eq_true rfl, Nat.le_of_ble_eq_true rfl⟩) (zpreS hK hN hQ_5) rfl rfl hl.1 rfl (lv_room (Nat.le_of_ble_eq_true rfl)) dX3_askedSize_5 ⟨Nat.le_of_ble_eq_true rfl, Nat.le_of_ble_eq_true rfl⟩) (fun r_5 hr_5 => ?_)
    subst hr_5
    refine zti (show _ = nI 5 from congrArg nI hkd) ?_
    refine lv_istore_n (lv' := [(2, .int (nI 5)), (0, .ref (ad 0)), (1, .int (nI x))]) hx hb dX3_askedSize_8 rfl hl (by decide) rfl (fun ls hl => ?_)
    refine lv_iload_n hx hb dX3_askedSize_9 rfl (lv_at hl 0 rfl) ?_
    refine lv_iconst (v := nI 4) hx hb dX3_askedSize_10 (by decide) ?_
    refine zc_lt (tgt := 20) hx hb (by omega) (by omega) dX3_askedSize_11 (by decide) (fun c_11 => ?_) (fun c_11 => ?_)
    · omega
    · refine lv_aload_n hx hb dX3_askedSize_14 rfl (lv_at hl 1 rfl) ?_
      refine lv_iload_n hx hb dX3_askedSize_15 rfl (lv_at hl 2 rfl) ?_
      have hle_16 := hS.1
      refine va_calli (va_runV (As := [.int (nI x)]) (rest := []) ⟨hx, hb, hml, hown, hts⟩ (m_X3_fixedSize l g ad fi cn xl _ B tr n hc4 hc28 hf29 hB x (by omega) 5 hkd (by decide) (by omega)) (cwV 1 hts (lw_V q1707 q1709 qs57 q69 q1710) rfl rfl rfl hdV_X3_fixedSize ⟨Nat.le_of_ble_eq_true rfl, Nat.le_of_ble_eq_true rfl⟩) (zpreV hK hN (va_recv hK hP (ci := 3) (q0 := 0) rfl rfl) ⟨rfl, hP, hD.weaken (fun _ _ _ _ => trivial)⟩) rfl rfl hl.1 rfl (lv_room (Nat.le_of_ble_eq_true rfl)) dX3_askedSize_16 ⟨Nat.le_of_ble_eq_true rfl, Nat.le_of_ble_eq_true rfl⟩) hS (fun q _ h => mA_le hS.1 q h) (mA_le hS.1) (fun r_16 u t H locs ht hvm hw_16 hB hzz hkk hS => ?_)
      obtain ⟨hP, hD⟩ := hB
      rw [ht] at hP
      have hD := hD.weaken (fun _ _ _ h => mA_le hle_16 _ h)
      obtain ⟨rfl, rfl⟩ := hw_16
      have hP : va_P g.1 zCL (mW g ad (va_up fi 29 (nI (n + (bfzl 5).length))) (va_up cn 28 (nF (btl tr n (bfzl 5)))) xl) _ := hP
      have hD : va_D (mA ad s.heap.size) (mW g ad (va_up fi 29 (nI (n + (bfzl 5).length))) (va_up cn 28 (nF (btl tr n (bfzl 5)))) xl) := hD
      exact W.iret (v := bfzv 5 B x) hx hb hr (fun t ht hW => ⟨⟨bfzv 5 B x, (va_up fi 29 (nI (n + (bfzl 5).length)), va_up cn 28 (nF (btl tr n (bfzl 5))), xl), rfl, ⟨rfl, rfl⟩, by rw [ht]; exact hP, hD⟩, hS.F ht⟩) hS.2.2 dX3_askedSize_19

set_option maxHeartbeats 4000000 in
set_option maxRecDepth 100000 in
theorem m_X3_ask (l : Launch) (g : zG) (ad : Nat → Nat) (fi : Nat → Int32) (cn : Nat → Nat → Int32) (xl : Nat → Nat → Int64) (sz : Nat) (S : zS) (hM : MR S fi cn) (hX : MX fi cn xl) (hI : SI S) (s2 w2 : Int32) : Met l yX3_ask (ws_ yX3_ask cX3_ask 3 (some .int)) ({ frames := 5, cells := 0, slots := 0, locals := 111 }) (zPc g [.ref (ad 0), .int s2, .int w2] (mH g ad fi cn xl sz)) (va_Qi (fun (r9 : Int32) u => r9 = (opAsk S s2 w2 ).1 ∧ MR (opAsk S s2 w2 ).2 u.1 u.2.1 ∧ MX u.1 u.2.1 u.2.2) (mB g ad sz) (mA ad sz)) 0 0 (mA ad sz) := by
  refine Met.ofW (cc := cX3_ask) (maxL := 3) (ret := (some .int)) (by decide) rfl ?_
  intro p e s m args below meth c s₁ B0 hml hv
  obtain ⟨rfl, ⟨hK, hN⟩, hsz, hP, hD⟩ := hv
  have hx := B0.exec
  have hb := B0.bytes
  have hr := B0.returns
  have hts := atoms_spec (ws := ws_ yX3_ask cX3_ask 3 (some .int)) B0.pre
  have hts : ∀ w ∈ lw_all, w.before _ s = true := fun w h => hts w (List.mem_cons_of_mem _ h)
  have hown : s.vm.findClass RX3 = some m.cls := findClass_of_methodNamed B0.named
  have hlocks := B0.notSynchronized
  subst hsz
  have hD := mD_self s.heap.size hD
  have hS : va_S (mA ad s.heap.size) s.heap s.heap [] := va_S.rf
  have hl := lv_entry ([.ref (ad 0), .int s2, .int w2]) (n := 3) (Nat.le_of_ble_eq_true rfl)
  rw [lg_entry_eq]
  generalize (lg_sl ([.ref (ad 0), .int s2, .int w2]) ++ List.replicate (3 - (lg_sl ([.ref (ad 0), .int s2, .int w2])).length) Slot.unset).toArray = ls at hl ⊢
  have hl : lv_has ls 3 [(0, .ref (ad 0)), (1, .int s2), (2, .int w2)] := hl
  obtain ⟨hf0, hf8, hf12, hf19, hf29, hc1, hc2, hc3, hc4, hc7, hc11, hc26, hc27, hc28⟩ := hM
  obtain ⟨F5, F6, F9, F10, F24, E25, N21, N22, b23, hc5, hc6, hc9, hc10, hc24, hc25, hc21, hc22, hf23⟩ := hX
  have hB : bOK (S.2.1 4) := hI.1
  have h0 : S.2.1 4 0 ≤ 4 := hB.n4
  have h3 : S.2.1 4 3 ≤ 8 := hB.r8
  have hac := hI.2.2.1
  have hta := hI.2.2.2.1
  have hmn := hI.2.2.2.2.2.2.1
  have htn := hI.2.2.2.2.2.1
  refine lv_aload_n hx hb dX3_ask_0 rfl (lv_at hl 0 rfl) ?_
  refine lv_iload_n hx hb dX3_ask_1 rfl (lv_at hl 1 rfl) ?_
  have hQ_2 : va_P g.1 zCL [(ad 0, .inr (3, mO ad fi)), (ad 4, .inl (g.2 0, 44, .inl (cn 4)))] _ := hP.sub [0, 4] rfl
  rw [show _ = _ from hc4] at hQ_2
  refine vp_callSi (W.runV (As := [.int s2]) (rest := []) ⟨hx, hb, hml, hown, hts⟩ (m_X3_isSort l g ad fi (S.2.1 4) hB s2) (cwV 1 hts (lw_V q1480 q1482 qs39 q69 q1483) rfl rfl rfl hdV_X3_isSort ⟨Nat.le_of_ble_eq_true rfl, Nat.le_of_ble_eq_true rfl⟩) (zpreV hK hN (va_recv hK hP (ci := 3) (q0 := 0) rfl rfl) hQ_2) rfl rfl hl.1 rfl (lv_room (Nat.le_of_ble_eq_true rfl)) dX3_ask_2 ⟨Nat.le_of_ble_eq_true rfl, Nat.le_of_ble_eq_true rfl⟩) (fun r_2 hr_2 => ?_)
  subst hr_2
  refine zi_eqB (tgt := 18) hx hb dX3_ask_5 (by decide) (fun c_5 => ?_) (fun c_5 => ?_)
  · refine lv_ldc hx hb hown (hts _ q1401) dX3_ask_18 ?_
    exact W.iret (v := -1000001) hx hb hr (fun t ht hW => ⟨⟨-1000001, (fi, cn, xl), rfl, (by unfold opAsk; rw [zif_f c_5]; exact ⟨rfl, ⟨hf0, hf8, hf12, hf19, hf29, hc1, hc2, hc3, hc4, hc7, hc11, hc26, hc27, hc28⟩, ⟨_, _, _, _, _, _, _, _, _, hc5, hc6, hc9, hc10, hc24, hc25, hc21, hc22, hf23⟩⟩), by rw [ht]; exact hP, hD⟩, hS.F ht⟩) hS.2.2 dX3_ask_20
  · refine lv_iload_n hx hb dX3_ask_8 rfl (lv_at hl 2 rfl) ?_
    refine lv_i2l hx hb dX3_ask_9 rfl ?_
    refine lv_lconst (v := lN 0) hx hb dX3_ask_10 (by decide) ?_
    refine lv_lconst (v := lN 1) hx hb dX3_ask_11 (by decide) ?_
    refine vp_callSi (W.runS (As := [.long w2.toInt64, .long (lN 0), .long (lN 1)]) (rest := []) ⟨hx, hb, hml, hown, hts⟩ (m_X3_in l g w2.toInt64 (lN 0) (lN 1)) (va_cwS 3 hts (lw_S q1397 q1398 q69 q1399) rfl rfl rfl hdS_X3_in ⟨Nat.le_of_ble_eq_true rfl, Nat.le_of_ble_eq_true rfl⟩) (zpreS hK hN trivial) rfl rfl hl.1 rfl (lv_room (Nat.le_of_ble_eq_true rfl)) dX3_ask_12 ⟨Nat.le_of_ble_eq_true rfl, Nat.le_of_ble_eq_true rfl⟩) (fun r_12 hr_12 => ?_)
    subst hr_12
    refine zti (show _ = zB (zIn w2 0 1) from zB_c (zIn_l w2 (by omega) (by omega))) ?_
    refine zi_neB (tgt := 21) hx hb dX3_ask_15 (by decide) (fun c_15 => ?_) (fun c_15 => ?_)
    · obtain ⟨x, rfl, hu_x, hv_x⟩ := zIn_ex c_5 (by omega)
      obtain ⟨w, rfl, hu_w, hv_w⟩ := zIn_ex c_15 (by omega)
      have hx0 : x < S.2.1 4 0 := by omega
      have hk5 := b15 (hB.kd hx0)
      refine lv_aload_n hx hb dX3_ask_21 rfl (lv_at hl 0 rfl) ?_
      refine lv_iconst (v := nI 0) hx hb dX3_ask_22 (by decide) ?_
      refine va_put (D := g.1) (ci := 3) (v := .int (nI 0)) (ty := .int) (C := RX3) (T := TX3) (N := 30) hx hb hts in_X3 tyX3 tyX3_ok nmX3 hown hK hP hD hS 0 rfl rfl 29 (by decide) (hts _ q1326) (fun _ h9 => h9) rfl (by decide +kernel) rfl rfl (Nat.le_of_ble_eq_true rfl) dX3_ask_23 (fun H locs hP hD hS => ?_)
      have hP : va_P g.1 zCL (mW g ad (va_up fi 29 (nI 0)) cn xl) _ := hP
      have hD : va_D (mA ad s.heap.size) (mW g ad (va_up fi 29 (nI 0)) cn xl) := hD
      refine lv_iload_n hx hb dX3_ask_26 rfl (lv_at hl 2 rfl) ?_
      refine zi_ne (tgt := 38) hx hb (by omega) dX3_ask_27 (by decide) (fun c_27 => ?_) (fun c_27 => ?_)
      · refine lv_aload_n hx hb dX3_ask_38 rfl (lv_at hl 0 rfl) ?_
        refine lv_iload_n hx hb dX3_ask_39 rfl (lv_at hl 1 rfl) ?_
        have hle_40 := hS.1
        refine va_calli (va_runV (As := [.int (nI x)]) (rest := []) ⟨hx, hb, hml, hown, hts⟩ (m_X3_markOf l g ad (va_up fi 29 (nI 0)) cn xl _ (S.2.1 4) (S.2.1 28) 0 hc4 hc28 rfl hB x (by omega) (bkd (S.2.1 4) x) rfl hk5 (by omega)) (cwV 1 hts (lw_V q1719 q1721 qs60 q69 q1722) rfl rfl rfl hdV_X3_markOf ⟨Nat.le_of_ble_eq_true rfl, Nat.le_of_ble_eq_true rfl⟩) (zpreV hK hN (va_recv hK hP (ci := 3) (q0 := 0) rfl rfl) ⟨rfl, hP, hD.weaken (fun _ _ _ _ => trivial)⟩) rfl rfl hl.1 rfl (lv_room (Nat.le_of_ble_eq_true rfl)) dX3_ask_40 ⟨Nat.le_of_ble_eq_true rfl, Nat.le_of_ble_eq_true rfl⟩) hS (fun q _ h => mA_le hS.1 q h) (mA_le hS.1) (fun r_40 u t H locs ht hvm hw_40 hB hzz hkk hS => ?_)
        obtain ⟨hP, hD⟩ := hB
        rw [ht] at hP
        have hD := hD.weaken (fun _ _ _ h => mA_le hle_40 _ h)
        obtain ⟨rfl, rfl⟩ := hw_40
        have hP : va_P g.1 zCL (mW g ad (va_up fi 29 (nI (0 + (bmkl (bkd (S.2.1 4) x)).length))) (va_up cn 28 (nF (btl (S.2.1 28) 0 (bmkl (bkd (S.2.1 4) x))))) xl) _ := hP
        have hD : va_D (mA ad s.heap.size) (mW g ad (va_up fi 29 (nI (0 + (bmkl (bkd (S.2.1 4) x)).length))) (va_up cn 28 (nF (btl (S.2.1 28) 0 (bmkl (bkd (S.2.1 4) x))))) xl) := hD
        exact W.iret (v := bmkv (bkd (S.2.1 4) x) (S.2.1 4) x) hx hb hr (fun t ht hW => ⟨⟨bmkv (bkd (S.2.1 4) x) (S.2.1 4) x, (va_up fi 29 (nI (0 + (bmkl (bkd (S.2.1 4) x)).length)), va_up cn 28 (nF (btl (S.2.1 28) 0 (bmkl (bkd (S.2.1 4) x)))), xl), rfl, (by unfold opAsk; (try rw [zn_nI (n := x) (by omega)]); (try rw [zn_nI (n := w) (by omega)]); rw [zif_t c_5, zif_t c_15, zif_f c_27]; exact ⟨rfl, ⟨hf0, hf8, hf12, hf19, (congrArg nI (Nat.zero_add _)), hc1, hc2, hc3, hc4, hc7, hc11, hc26, hc27, rfl⟩, ⟨_, _, _, _, _, _, _, _, _, hc5, hc6, hc9, hc10, hc24, hc25, hc21, hc22, hf23⟩⟩), by rw [ht]; exact hP, hD⟩, hS.F ht⟩) hS.2.2 dX3_ask_43
      · refine lv_aload_n hx hb dX3_ask_30 rfl (lv_at hl 0 rfl) ?_
        refine lv_iload_n hx hb dX3_ask_31 rfl (lv_at hl 1 rfl) ?_
        have hle_32 := hS.1
        refine va_calli (va_runV (As := [.int (nI x)]) (rest := []) ⟨hx, hb, hml, hown, hts⟩ (m_X3_askedSize l g ad (va_up fi 29 (nI 0)) cn xl _ (S.2.1 4) (S.2.1 28) 0 hc4 hc28 rfl hB x (by omega) (bkd (S.2.1 4) x) rfl hk5 (by omega)) (cwV 1 hts (lw_V q1703 q1705 qs56 q69 q1706) rfl rfl rfl hdV_X3_askedSize ⟨Nat.le_of_ble_eq_true rfl, Nat.le_of_ble_eq_true rfl⟩) (zpreV hK hN (va_recv hK hP (ci := 3) (q0 := 0) rfl rfl) ⟨rfl, hP, hD.weaken (fun _ _ _ _ => trivial)⟩) rfl rfl hl.1 rfl (lv_room (Nat.le_of_ble_eq_true rfl)) dX3_ask_32 ⟨Nat.le_of_ble_eq_true rfl, Nat.le_of_ble_eq_true rfl⟩) hS (fun q _ h => mA_le hS.1 q h) (mA_le hS.1) (fun r_32 u t H locs ht hvm hw_32 hB hzz hkk hS => ?_)
        obtain ⟨hP, hD⟩ := hB
        rw [ht] at hP
        have hD := hD.weaken (fun _ _ _ h => mA_le hle_32 _ h)
        obtain ⟨rfl, rfl⟩ := hw_32
        have hP : va_P g.1 zCL (mW g ad (va_up fi 29 (nI (0 + (basl (bkd (S.2.1 4) x)).length))) (va_up cn 28 (nF (btl (S.2.1 28) 0 (basl (bkd (S.2.1 4) x))))) xl) _ := hP
        have hD : va_D (mA ad s.heap.size) (mW g ad (va_up fi 29 (nI (0 + (basl (bkd (S.2.1 4) x)).length))) (va_up cn 28 (nF (btl (S.2.1 28) 0 (basl (bkd (S.2.1 4) x))))) xl) := hD
        refine lv_goto (tgt := 43) hx hb dX3_ask_35 (by decide) ?_
        exact W.iret (v := basv (bkd (S.2.1 4) x) (S.2.1 4) x) hx hb hr (fun t ht hW => ⟨⟨basv (bkd (S.2.1 4) x) (S.2.1 4) x, (va_up fi 29 (nI (0 + (basl (bkd (S.2.1 4) x)).length)), va_up cn 28 (nF (btl (S.2.1 28) 0 (basl (bkd (S.2.1 4) x)))), xl), rfl, (by unfold opAsk; (try rw [zn_nI (n := x) (by omega)]); (try rw [zn_nI (n := w) (by omega)]); rw [zif_t c_5, zif_t c_15, zif_t c_27]; exact ⟨rfl, ⟨hf0, hf8, hf12, hf19, (congrArg nI (Nat.zero_add _)), hc1, hc2, hc3, hc4, hc7, hc11, hc26, hc27, rfl⟩, ⟨_, _, _, _, _, _, _, _, _, hc5, hc6, hc9, hc10, hc24, hc25, hc21, hc22, hf23⟩⟩), by rw [ht]; exact hP, hD⟩, hS.F ht⟩) hS.2.2 dX3_ask_43
    · refine lv_ldc hx hb hown (hts _ q1401) dX3_ask_18 ?_
      exact W.iret (v := -1000001) hx hb hr (fun t ht hW => ⟨⟨-1000001, (fi, cn, xl), rfl, (by unfold opAsk; rw [zif_t c_5, zif_f c_15]; exact ⟨rfl, ⟨hf0, hf8, hf12, hf19, hf29, hc1, hc2, hc3, hc4, hc7, hc11, hc26, hc27, hc28⟩, ⟨_, _, _, _, _, _, _, _, _, hc5, hc6, hc9, hc10, hc24, hc25, hc21, hc22, hf23⟩⟩), by rw [ht]; exact hP, hD⟩, hS.F ht⟩) hS.2.2 dX3_ask_20
